/-! a node: errors, flags, intermission -/
set_option maxRecDepth 100000
def cRaise (g : Nat → Int32) (x : Int32) : Nat → Int32 := upd g 4 (minI 255 (g 4 + x))
set_option maxHeartbeats 4000000 in
theorem met_Nd_raise (l : Launch) (G : gG) (M : gM) (nd : Nat) (tn : Nat × Nat) (of : Nat) (ph : Nat) (cu : Option Nat) (sa : Nat) (wa : Nat) (rc : Nat) (an : Nat) (er : Nat) (g1 : Nat → Int32) (x : Int32)  (hM_0 : M nd = some (tn, .inr (2, ndL G of ph cu sa wa rc an er g1))) : Met l yX2_raiseReceiveErrors (ws_ yX2_raiseReceiveErrors cX2_raiseReceiveErrors 2 none) ({ frames := 1, cells := 0, slots := 0, locals := 14 }) (gPc G [.ref nd, .int x] M) (gQv G (fun M9 k9 => M9 nd = some (tn, .inr (2, ndL G of ph cu sa wa rc an er (cRaise g1 x))) ∧ gFr (gL [nd]) M M9 ∧ k9 = 0)) 0 0 (gA G) := by
  refine gMet [(0, .ref nd), (1, .int x)] (by decide) (Nat.le_of_ble_eq_true rfl) rfl ?_
  intro p e s m below meth c hC
  refine g_aload_n hC dX2_raiseReceiveErrors_0 0 rfl gRef_r 1 rfl ?_
  refine g_sipush hC dX2_raiseReceiveErrors_1 ks_255 4 rfl ?_
  refine g_aload_n hC dX2_raiseReceiveErrors_4 0 rfl gRef_r 5 rfl ?_
  refine g_get (v := .int (g1 4)) hC cI2 hM_0 4 (Nat.le_of_ble_eq_true rfl) q377 rfl dX2_raiseReceiveErrors_5 8 rfl ?_
  refine g_iload_n hC dX2_raiseReceiveErrors_8 1 rfl 9 rfl ?_
  refine g_iadd hC dX2_raiseReceiveErrors_9 10 rfl ?_
  refine g_mmin hC q2196 q798 q128 q799 (Nat.le_of_ble_eq_true rfl) (Nat.le_of_ble_eq_true rfl) (Nat.le_of_ble_eq_true rfl) (Nat.le_of_ble_eq_true rfl) dX2_raiseReceiveErrors_10 13 rfl ?_
  obtain ⟨F3, eF4⟩ : ∃ z9, z9 = upd g1 4 (minI 255 ((g1 4) + x)) := ⟨_, rfl⟩
  refine g_put hC cI2 hM_0 4 (Nat.le_of_ble_eq_true rfl) q377 rfl rfl rfl (Nat.le_of_ble_eq_true rfl) dX2_raiseReceiveErrors_13 (fs' := ndL G of ph cu sa wa rc an er F3) (by rw [eF4]; exact ndL_s4) 16 rfl (fun M1 hU2 => ?_)
  exact g_vret hC (fun k9 hk9 => ⟨(by rw [hU2.1]; all_goals (first | rfl | (simp only [cRaise, ← eF4, if_true, if_false, true_and, and_true, false_and, and_false, true_or, or_true, false_or, or_false, not_true_eq_false, not_false_eq_true, reduceIte, decide_true, decide_false, Bool.false_eq_true]; done) | (simp only [cRaise, ← eF4, if_true, if_false, true_and, and_true, false_and, and_false, true_or, or_true, false_or, or_false, not_true_eq_false, not_false_eq_true, reduceIte, decide_true, decide_false, Bool.false_eq_true]; rfl) | (simp only [cRaise, ← eF4, if_true, if_false, true_and, and_true, false_and, and_false, true_or, or_true, false_or, or_false, not_true_eq_false, not_false_eq_true, reduceIte, decide_true, decide_false, Bool.false_eq_true]; done) | (simp only [cRaise, ← eF4]; simp only [if_true, if_false, true_and, and_true, false_and, and_false, true_or, or_true, false_or, or_false, not_true_eq_false, not_false_eq_true, reduceIte, decide_true, decide_false, Bool.false_eq_true]; done) | (simp only [cRaise, ← eF4]; simp only [if_true, if_false, true_and, and_true, false_and, and_false, true_or, or_true, false_or, or_false, not_true_eq_false, not_false_eq_true, reduceIte, decide_true, decide_false, Bool.false_eq_true]; done) | (simp only [cRaise, ← eF4]; simp only [if_true, if_false, true_and, and_true, false_and, and_false, true_or, or_true, false_or, or_false, not_true_eq_false, not_false_eq_true, reduceIte, decide_true, decide_false, Bool.false_eq_true]; simp only [cRaise, ← eF4]; done) | (simp only [cRaise, ← eF4, if_true, if_false, true_and, and_true, false_and, and_false, true_or, or_true, false_or, or_false, not_true_eq_false, not_false_eq_true, reduceIte, decide_true, decide_false, Bool.false_eq_true]; rfl) | (simp only [cRaise, ← eF4]; simp only [if_true, if_false, true_and, and_true, false_and, and_false, true_or, or_true, false_or, or_false, not_true_eq_false, not_false_eq_true, reduceIte, decide_true, decide_false, Bool.false_eq_true]; rfl) | (simp only [cRaise, ← eF4]; rfl) | (simp only [cRaise, if_true, if_false, true_and, and_true, false_and, and_false, true_or, or_true, false_or, or_false, not_true_eq_false, not_false_eq_true, reduceIte, decide_true, decide_false, Bool.false_eq_true]; simp only [← eF4]; done) | (simp only [cRaise, if_true, if_false, true_and, and_true, false_and, and_false, true_or, or_true, false_or, or_false, not_true_eq_false, not_false_eq_true, reduceIte, decide_true, decide_false, Bool.false_eq_true]; simp only [← eF4]; rfl) | (simp only [cRaise, ← eF4]; simp only [if_true, if_false, true_and, and_true, false_and, and_false, true_or, or_true, false_or, or_false, not_true_eq_false, not_false_eq_true, reduceIte, decide_true, decide_false, Bool.false_eq_true]; simp only [cRaise, ← eF4, if_true, if_false, true_and, and_true, false_and, and_false, true_or, or_true, false_or, or_false, not_true_eq_false, not_false_eq_true, reduceIte, decide_true, decide_false, Bool.false_eq_true]; done) | (subst eF4; simp_all [cRaise]; done))), (gFr.refl.up hU2 hM_0 (by simp)), (by first | exact Nat.le_zero.mp hk9 | omega)⟩) dX2_raiseReceiveErrors_16 (Nat.le_of_ble_eq_true rfl) (Nat.le_of_ble_eq_true rfl)
def cOver (g : Nat → Int32) : Nat → Int32 := upd (upd g 21 (g 21 + 1)) 5 0
set_option maxHeartbeats 4000000 in
theorem met_Nd_overload (l : Launch) (G : gG) (M : gM) (nd : Nat) (tn : Nat × Nat) (of : Nat) (ph : Nat) (cu : Option Nat) (sa : Nat) (wa : Nat) (rc : Nat) (an : Nat) (er : Nat) (g1 : Nat → Int32)  (hM_0 : M nd = some (tn, .inr (2, ndL G of ph cu sa wa rc an er g1))) : Met l yX2_overload (ws_ yX2_overload cX2_overload 1 none) ({ frames := 1, cells := 0, slots := 0, locals := 21 }) (gPc G [.ref nd] M) (gQv G (fun M9 k9 => M9 nd = some (tn, .inr (2, ndL G of 6 cu sa wa rc an er (cOver g1))) ∧ gFr (gL [nd]) M M9 ∧ k9 = 0)) 0 0 (gA G) := by
  refine gMet [(0, .ref nd)] (by decide) (Nat.le_of_ble_eq_true rfl) rfl ?_
  intro p e s m below meth c hC
  refine g_aload_n hC dX2_overload_0 0 rfl gRef_r 1 rfl ?_
  refine g_dup hC dX2_overload_1 rfl 2 rfl ?_
  refine g_get (v := .int (g1 21)) hC cI2 hM_0 21 (Nat.le_of_ble_eq_true rfl) q412 rfl dX2_overload_2 5 rfl ?_
  refine g_iconst hC dX2_overload_5 ki_1 6 rfl ?_
  refine g_iadd hC dX2_overload_6 7 rfl ?_
  obtain ⟨F3, eF4⟩ : ∃ z9, z9 = upd g1 21 ((g1 21) + 1) := ⟨_, rfl⟩
  refine g_put hC cI2 hM_0 21 (Nat.le_of_ble_eq_true rfl) q412 rfl rfl rfl (Nat.le_of_ble_eq_true rfl) dX2_overload_7 (fs' := ndL G of ph cu sa wa rc an er F3) (by rw [eF4]; exact ndL_s21) 10 rfl (fun M1 hU2 => ?_)
  refine g_aload_n hC dX2_overload_10 0 rfl gRef_r 11 rfl ?_
  refine g_phase hC 6 (by decide) rfl q2222 dX2_overload_11 14 rfl ?_
  refine g_callv (g_V (As := [.ref (gph G 6)]) (rest := []) hC mvX2_enter q2135 (gOf.of hC.K cI2 hU2.1) (met_Nd_enter l G M1 nd tn of ph cu sa wa rc an er F3 6 hU2.1) ⟨rfl, rfl⟩ ⟨(Nat.le_of_ble_eq_true rfl), (Nat.le_of_ble_eq_true rfl)⟩ rfl (Nat.le_of_ble_eq_true rfl) dX2_overload_14 rfl ⟨(Nat.le_of_ble_eq_true rfl), (Nat.le_of_ble_eq_true rfl)⟩) 0 (Nat.le_of_ble_eq_true rfl) 0 (Nat.le_of_ble_eq_true rfl) 17 rfl (fun M5 k6 hp7 => ?_)
  obtain ⟨hc9, hF10, hk11⟩ := hp7
  obtain ⟨F12, eF13⟩ : ∃ z9, z9 = upd F3 5 0 := ⟨_, rfl⟩
  rw [← eF13] at hc9
  exact g_vret hC (fun k9 hk9 => ⟨(by rw [hc9]; all_goals (first | rfl | (simp only [cOver, ← eF4, ← eF13, if_true, if_false, true_and, and_true, false_and, and_false, true_or, or_true, false_or, or_false, not_true_eq_false, not_false_eq_true, reduceIte, decide_true, decide_false, Bool.false_eq_true]; done) | (simp only [cOver, ← eF4, ← eF13, if_true, if_false, true_and, and_true, false_and, and_false, true_or, or_true, false_or, or_false, not_true_eq_false, not_false_eq_true, reduceIte, decide_true, decide_false, Bool.false_eq_true]; rfl) | (simp only [cOver, ← eF4, ← eF13, if_true, if_false, true_and, and_true, false_and, and_false, true_or, or_true, false_or, or_false, not_true_eq_false, not_false_eq_true, reduceIte, decide_true, decide_false, Bool.false_eq_true]; done) | (simp only [cOver, ← eF4, ← eF13]; simp only [if_true, if_false, true_and, and_true, false_and, and_false, true_or, or_true, false_or, or_false, not_true_eq_false, not_false_eq_true, reduceIte, decide_true, decide_false, Bool.false_eq_true]; done) | (simp only [cOver, ← eF4, ← eF13]; simp only [if_true, if_false, true_and, and_true, false_and, and_false, true_or, or_true, false_or, or_false, not_true_eq_false, not_false_eq_true, reduceIte, decide_true, decide_false, Bool.false_eq_true]; done) | (simp only [cOver, ← eF4, ← eF13]; simp only [if_true, if_false, true_and, and_true, false_and, and_false, true_or, or_true, false_or, or_false, not_true_eq_false, not_false_eq_true, reduceIte, decide_true, decide_false, Bool.false_eq_true]; simp only [cOver, ← eF4, ← eF13]; done) | (simp only [cOver, ← eF4, ← eF13, if_true, if_false, true_and, and_true, false_and, and_false, true_or, or_true, false_or, or_false, not_true_eq_false, not_false_eq_true, reduceIte, decide_true, decide_false, Bool.false_eq_true]; rfl) | (simp only [cOver, ← eF4, ← eF13]; simp only [if_true, if_false, true_and, and_true, false_and, and_false, true_or, or_true, false_or, or_false, not_true_eq_false, not_false_eq_true, reduceIte, decide_true, decide_false, Bool.false_eq_true]; rfl) | (simp only [cOver, ← eF4, ← eF13]; rfl) | (simp only [cOver, if_true, if_false, true_and, and_true, false_and, and_false, true_or, or_true, false_or, or_false, not_true_eq_false, not_false_eq_true, reduceIte, decide_true, decide_false, Bool.false_eq_true]; simp only [← eF4, ← eF13]; done) | (simp only [cOver, if_true, if_false, true_and, and_true, false_and, and_false, true_or, or_true, false_or, or_false, not_true_eq_false, not_false_eq_true, reduceIte, decide_true, decide_false, Bool.false_eq_true]; simp only [← eF4, ← eF13]; rfl) | (simp only [cOver, ← eF4, ← eF13]; simp only [if_true, if_false, true_and, and_true, false_and, and_false, true_or, or_true, false_or, or_false, not_true_eq_false, not_false_eq_true, reduceIte, decide_true, decide_false, Bool.false_eq_true]; simp only [cOver, ← eF4, ← eF13, if_true, if_false, true_and, and_true, false_and, and_false, true_or, or_true, false_or, or_false, not_true_eq_false, not_false_eq_true, reduceIte, decide_true, decide_false, Bool.false_eq_true]; done) | (subst eF13 eF4; simp_all [cOver]; done))), ((gFr.refl.up hU2 hM_0 (by simp)).trans (hF10.mono (by intro b t hb; simp at hb ⊢; first | done | (rcases hb with rfl | rfl | rfl | rfl <;> simp) | (simp [hb]; done)))), (by first | exact Nat.le_zero.mp hk9 | omega)⟩) dX2_overload_17 (Nat.le_of_ble_eq_true rfl) (Nat.le_of_ble_eq_true rfl)
def cBegG (g : Nat → Int32) (b : Bool) : Nat → Int32 := upd (upd g 5 0) 2 (bI b)
def cBegS (s : Nat → Int32) : Nat → Int32 := smTake (smSee (smClear s) 0) 0
set_option maxHeartbeats 4000000 in
theorem met_Nd_begin (l : Launch) (G : gG) (M : gM) (nd : Nat) (tn : Nat × Nat) (of : Nat) (ph : Nat) (cu : Option Nat) (sa : Nat) (wa : Nat) (rc : Nat) (an : Nat) (er : Nat) (g1 : Nat → Int32) (ts : Nat × Nat) (s1 : Nat → Int32) (b : Bool)  (hM_0 : M nd = some (tn, .inr (2, ndL G of ph cu sa wa rc an er g1))) (hM_1 : M sa = some (ts, .inr (4, smL G  s1))) : Met l yX2_begin (ws_ yX2_begin cX2_begin 2 none) ({ frames := 3, cells := 1, slots := 2, locals := 52 }) (gPc G [.ref nd, .int (bI b)] M) (gQv G (fun M9 k9 => M9 nd = some (tn, .inr (2, ndL G of 4 cu sa wa rc an er (cBegG g1 b))) ∧ M9 sa = some (ts, .inr (4, smL G  (cBegS s1))) ∧ gFr (gL [nd, sa]) M M9 ∧ k9 ≤ 1)) 1 2 (gA G) := by
  refine gMet [(0, .ref nd), (1, .int (bI b))] (by decide) (Nat.le_of_ble_eq_true rfl) rfl ?_
  intro p e s m below meth c hC
  refine g_aload_n hC dX2_begin_0 0 rfl gRef_r 1 rfl ?_
  refine g_phase hC 4 (by decide) rfl q1749 dX2_begin_1 4 rfl ?_
  refine g_callv (g_V (As := [.ref (gph G 4)]) (rest := []) hC mvX2_enter q2135 (gOf.of hC.K cI2 hM_0) (met_Nd_enter l G M nd tn of ph cu sa wa rc an er g1 4 hM_0) ⟨rfl, rfl⟩ ⟨(Nat.le_of_ble_eq_true rfl), (Nat.le_of_ble_eq_true rfl)⟩ rfl (Nat.le_of_ble_eq_true rfl) dX2_begin_4 rfl ⟨(Nat.le_of_ble_eq_true rfl), (Nat.le_of_ble_eq_true rfl)⟩) 0 (Nat.le_of_ble_eq_true rfl) 0 (Nat.le_of_ble_eq_true rfl) 7 rfl (fun M1 k2 hp3 => ?_)
  obtain ⟨hc5, hF6, hk7⟩ := hp3
  obtain ⟨F8, eF9⟩ : ∃ z9, z9 = upd g1 5 0 := ⟨_, rfl⟩
  rw [← eF9] at hc5
  refine g_aload_n hC dX2_begin_7 0 rfl gRef_r 8 rfl ?_
  refine g_iload_n hC dX2_begin_8 1 rfl 9 rfl ?_
  obtain ⟨F12, eF13⟩ : ∃ z9, z9 = upd F8 2 (bI b) := ⟨_, rfl⟩
  refine g_put hC cI2 hc5 2 (Nat.le_of_ble_eq_true rfl) q372 rfl (bI_n b) (bI_fit b) (Nat.le_of_ble_eq_true rfl) dX2_begin_9 (fs' := ndL G of 4 cu sa wa rc an er F12) (by rw [eF13]; exact ndL_s2) 12 rfl (fun M10 hU11 => ?_)
  refine g_aload_n hC dX2_begin_12 0 rfl gRef_r 13 rfl ?_
  refine g_get (v := .ref sa) hC cI2 hU11.1 11 (Nat.le_of_ble_eq_true rfl) q391 rfl dX2_begin_13 16 rfl ?_
  refine g_callv (g_V (As := []) (rest := []) hC mvX5_clear q2136 (gOf.of hC.K cI4 (hU11.n (gne_c (hF6 _ _ _ hM_1 (gno (gne_c hM_1 hM_0 (by decide)) gno0)) hc5 (by decide)) (hF6 _ _ _ hM_1 (gno (gne_c hM_1 hM_0 (by decide)) gno0)))) (met_Sg_clear l G M10 sa ts s1 (hU11.n (gne_c (hF6 _ _ _ hM_1 (gno (gne_c hM_1 hM_0 (by decide)) gno0)) hc5 (by decide)) (hF6 _ _ _ hM_1 (gno (gne_c hM_1 hM_0 (by decide)) gno0)))) ⟨rfl, rfl⟩ ⟨(Nat.le_of_ble_eq_true rfl), (Nat.le_of_ble_eq_true rfl)⟩ rfl (Nat.le_of_ble_eq_true rfl) dX2_begin_16 rfl ⟨(Nat.le_of_ble_eq_true rfl), (Nat.le_of_ble_eq_true rfl)⟩) 1 (Nat.le_of_ble_eq_true rfl) 2 (Nat.le_of_ble_eq_true rfl) 19 rfl (fun M14 k15 hp16 => ?_)
  obtain ⟨hc18, hF19, hk20⟩ := hp16
  obtain ⟨F21, eF22⟩ : ∃ z9, z9 = smClear s1 := ⟨_, rfl⟩
  rw [← eF22] at hc18
  have hH23 := (hF19 _ _ _ hU11.1 (gno (gne_c hU11.1 (hU11.n (gne_c (hF6 _ _ _ hM_1 (gno (gne_c hM_1 hM_0 (by decide)) gno0)) hc5 (by decide)) (hF6 _ _ _ hM_1 (gno (gne_c hM_1 hM_0 (by decide)) gno0))) (by decide)) gno0))
  refine g_aload_n hC dX2_begin_19 0 rfl gRef_r 20 rfl ?_
  refine g_get (v := .ref sa) hC cI2 hH23 11 (Nat.le_of_ble_eq_true rfl) q391 rfl dX2_begin_20 23 rfl ?_
  refine g_iconst hC dX2_begin_23 ki_0 24 rfl ?_
  refine g_callv (g_U (n := 1) (As := [.int 0]) (rest := []) hC ⟨q2152, q2154, q1377, q111, q1381, (Or.inl rfl), by decide +kernel⟩ q2151 (gOf.of hC.K cI4 hc18) (met_Sg_see l G M14 sa ts F21 0 hc18) ⟨rfl, rfl⟩ ⟨(Nat.le_of_ble_eq_true rfl), (Nat.le_of_ble_eq_true rfl)⟩ rfl (Nat.le_of_ble_eq_true rfl) dX2_begin_24 rfl ⟨(Nat.le_of_ble_eq_true rfl), (Nat.le_of_ble_eq_true rfl)⟩) 1 (Nat.le_of_ble_eq_true rfl) 2 (Nat.le_of_ble_eq_true rfl) 27 rfl (fun M24 k25 hp26 => ?_)
  obtain ⟨hc28, hF29, hk30⟩ := hp26
  obtain ⟨F31, eF32⟩ : ∃ z9, z9 = smSee F21 0 := ⟨_, rfl⟩
  rw [← eF32] at hc28
  refine g_aload_n hC dX2_begin_27 0 rfl gRef_r 28 rfl ?_
  refine g_get (v := .ref sa) hC cI2 (hF29 _ _ _ hH23 (gno (gne_c hH23 hc18 (by decide)) gno0)) 11 (Nat.le_of_ble_eq_true rfl) q391 rfl dX2_begin_28 31 rfl ?_
  refine g_iconst hC dX2_begin_31 ki_0 32 rfl ?_
  refine g_callv (g_V (As := [.int 0]) (rest := []) hC mvX5_take q2155 (gOf.of hC.K cI4 hc28) (met_Sg_take l G M24 sa ts F31 0 hc28) ⟨rfl, rfl⟩ ⟨(Nat.le_of_ble_eq_true rfl), (Nat.le_of_ble_eq_true rfl)⟩ rfl (Nat.le_of_ble_eq_true rfl) dX2_begin_32 rfl ⟨(Nat.le_of_ble_eq_true rfl), (Nat.le_of_ble_eq_true rfl)⟩) 1 (Nat.le_of_ble_eq_true rfl) 2 (Nat.le_of_ble_eq_true rfl) 35 rfl (fun M33 k34 hp35 => ?_)
  obtain ⟨hc37, hF38, hk39⟩ := hp35
  obtain ⟨F40, eF41⟩ : ∃ z9, z9 = smTake F31 0 := ⟨_, rfl⟩
  rw [← eF41] at hc37
  exact g_vret hC (fun k9 hk9 => ⟨(by rw [(hF38 _ _ _ (hF29 _ _ _ hH23 (gno (gne_c hH23 hc18 (by decide)) gno0)) (gno (gne_c (hF29 _ _ _ hH23 (gno (gne_c hH23 hc18 (by decide)) gno0)) hc28 (by decide)) gno0))]; all_goals (first | rfl | (simp only [cBegG, cBegS, ← eF9, ← eF13, ← eF22, ← eF32, ← eF41, if_true, if_false, true_and, and_true, false_and, and_false, true_or, or_true, false_or, or_false, not_true_eq_false, not_false_eq_true, reduceIte, decide_true, decide_false, Bool.false_eq_true]; done) | (simp only [cBegG, cBegS, ← eF9, ← eF13, ← eF22, ← eF32, ← eF41, if_true, if_false, true_and, and_true, false_and, and_false, true_or, or_true, false_or, or_false, not_true_eq_false, not_false_eq_true, reduceIte, decide_true, decide_false, Bool.false_eq_true]; rfl) | (simp only [cBegG, cBegS, ← eF9, ← eF13, ← eF22, ← eF32, ← eF41, if_true, if_false, true_and, and_true, false_and, and_false, true_or, or_true, false_or, or_false, not_true_eq_false, not_false_eq_true, reduceIte, decide_true, decide_false, Bool.false_eq_true]; done) | (simp only [cBegG, cBegS, ← eF9, ← eF13, ← eF22, ← eF32, ← eF41]; simp only [if_true, if_false, true_and, and_true, false_and, and_false, true_or, or_true, false_or, or_false, not_true_eq_false, not_false_eq_true, reduceIte, decide_true, decide_false, Bool.false_eq_true]; done) | (simp only [cBegG, cBegS, ← eF9, ← eF13, ← eF22, ← eF32, ← eF41]; simp only [if_true, if_false, true_and, and_true, false_and, and_false, true_or, or_true, false_or, or_false, not_true_eq_false, not_false_eq_true, reduceIte, decide_true, decide_false, Bool.false_eq_true]; done) | (simp only [cBegG, cBegS, ← eF9, ← eF13, ← eF22, ← eF32, ← eF41]; simp only [if_true, if_false, true_and, and_true, false_and, and_false, true_or, or_true, false_or, or_false, not_true_eq_false, not_false_eq_true, reduceIte, decide_true, decide_false, Bool.false_eq_true]; simp only [cBegG, cBegS, ← eF9, ← eF13, ← eF22, ← eF32, ← eF41]; done) | (simp only [cBegG, cBegS, ← eF9, ← eF13, ← eF22, ← eF32, ← eF41, if_true, if_false, true_and, and_true, false_and, and_false, true_or, or_true, false_or, or_false, not_true_eq_false, not_false_eq_true, reduceIte, decide_true, decide_false, Bool.false_eq_true]; rfl) | (simp only [cBegG, cBegS, ← eF9, ← eF13, ← eF22, ← eF32, ← eF41]; simp only [if_true, if_false, true_and, and_true, false_and, and_false, true_or, or_true, false_or, or_false, not_true_eq_false, not_false_eq_true, reduceIte, decide_true, decide_false, Bool.false_eq_true]; rfl) | (simp only [cBegG, cBegS, ← eF9, ← eF13, ← eF22, ← eF32, ← eF41]; rfl) | (simp only [cBegG, cBegS, if_true, if_false, true_and, and_true, false_and, and_false, true_or, or_true, false_or, or_false, not_true_eq_false, not_false_eq_true, reduceIte, decide_true, decide_false, Bool.false_eq_true]; simp only [← eF9, ← eF13, ← eF22, ← eF32, ← eF41]; done) | (simp only [cBegG, cBegS, if_true, if_false, true_and, and_true, false_and, and_false, true_or, or_true, false_or, or_false, not_true_eq_false, not_false_eq_true, reduceIte, decide_true, decide_false, Bool.false_eq_true]; simp only [← eF9, ← eF13, ← eF22, ← eF32, ← eF41]; rfl) | (simp only [cBegG, cBegS, ← eF9, ← eF13, ← eF22, ← eF32, ← eF41]; simp only [if_true, if_false, true_and, and_true, false_and, and_false, true_or, or_true, false_or, or_false, not_true_eq_false, not_false_eq_true, reduceIte, decide_true, decide_false, Bool.false_eq_true]; simp only [cBegG, cBegS, ← eF9, ← eF13, ← eF22, ← eF32, ← eF41, if_true, if_false, true_and, and_true, false_and, and_false, true_or, or_true, false_or, or_false, not_true_eq_false, not_false_eq_true, reduceIte, decide_true, decide_false, Bool.false_eq_true]; done) | (subst eF41 eF32 eF22 eF13 eF9; simp_all [cBegG, cBegS]; done))), (by rw [hc37]; all_goals (first | rfl | (simp only [cBegG, cBegS, ← eF9, ← eF13, ← eF22, ← eF32, ← eF41, if_true, if_false, true_and, and_true, false_and, and_false, true_or, or_true, false_or, or_false, not_true_eq_false, not_false_eq_true, reduceIte, decide_true, decide_false, Bool.false_eq_true]; done) | (simp only [cBegG, cBegS, ← eF9, ← eF13, ← eF22, ← eF32, ← eF41, if_true, if_false, true_and, and_true, false_and, and_false, true_or, or_true, false_or, or_false, not_true_eq_false, not_false_eq_true, reduceIte, decide_true, decide_false, Bool.false_eq_true]; rfl) | (simp only [cBegG, cBegS, ← eF9, ← eF13, ← eF22, ← eF32, ← eF41, if_true, if_false, true_and, and_true, false_and, and_false, true_or, or_true, false_or, or_false, not_true_eq_false, not_false_eq_true, reduceIte, decide_true, decide_false, Bool.false_eq_true]; done) | (simp only [cBegG, cBegS, ← eF9, ← eF13, ← eF22, ← eF32, ← eF41]; simp only [if_true, if_false, true_and, and_true, false_and, and_false, true_or, or_true, false_or, or_false, not_true_eq_false, not_false_eq_true, reduceIte, decide_true, decide_false, Bool.false_eq_true]; done) | (simp only [cBegG, cBegS, ← eF9, ← eF13, ← eF22, ← eF32, ← eF41]; simp only [if_true, if_false, true_and, and_true, false_and, and_false, true_or, or_true, false_or, or_false, not_true_eq_false, not_false_eq_true, reduceIte, decide_true, decide_false, Bool.false_eq_true]; done) | (simp only [cBegG, cBegS, ← eF9, ← eF13, ← eF22, ← eF32, ← eF41]; simp only [if_true, if_false, true_and, and_true, false_and, and_false, true_or, or_true, false_or, or_false, not_true_eq_false, not_false_eq_true, reduceIte, decide_true, decide_false, Bool.false_eq_true]; simp only [cBegG, cBegS, ← eF9, ← eF13, ← eF22, ← eF32, ← eF41]; done) | (simp only [cBegG, cBegS, ← eF9, ← eF13, ← eF22, ← eF32, ← eF41, if_true, if_false, true_and, and_true, false_and, and_false, true_or, or_true, false_or, or_false, not_true_eq_false, not_false_eq_true, reduceIte, decide_true, decide_false, Bool.false_eq_true]; rfl) | (simp only [cBegG, cBegS, ← eF9, ← eF13, ← eF22, ← eF32, ← eF41]; simp only [if_true, if_false, true_and, and_true, false_and, and_false, true_or, or_true, false_or, or_false, not_true_eq_false, not_false_eq_true, reduceIte, decide_true, decide_false, Bool.false_eq_true]; rfl) | (simp only [cBegG, cBegS, ← eF9, ← eF13, ← eF22, ← eF32, ← eF41]; rfl) | (simp only [cBegG, cBegS, if_true, if_false, true_and, and_true, false_and, and_false, true_or, or_true, false_or, or_false, not_true_eq_false, not_false_eq_true, reduceIte, decide_true, decide_false, Bool.false_eq_true]; simp only [← eF9, ← eF13, ← eF22, ← eF32, ← eF41]; done) | (simp only [cBegG, cBegS, if_true, if_false, true_and, and_true, false_and, and_false, true_or, or_true, false_or, or_false, not_true_eq_false, not_false_eq_true, reduceIte, decide_true, decide_false, Bool.false_eq_true]; simp only [← eF9, ← eF13, ← eF22, ← eF32, ← eF41]; rfl) | (simp only [cBegG, cBegS, ← eF9, ← eF13, ← eF22, ← eF32, ← eF41]; simp only [if_true, if_false, true_and, and_true, false_and, and_false, true_or, or_true, false_or, or_false, not_true_eq_false, not_false_eq_true, reduceIte, decide_true, decide_false, Bool.false_eq_true]; simp only [cBegG, cBegS, ← eF9, ← eF13, ← eF22, ← eF32, ← eF41, if_true, if_false, true_and, and_true, false_and, and_false, true_or, or_true, false_or, or_false, not_true_eq_false, not_false_eq_true, reduceIte, decide_true, decide_false, Bool.false_eq_true]; done) | (subst eF41 eF32 eF22 eF13 eF9; simp_all [cBegG, cBegS]; done))), (((((gFr.refl.trans (hF6.mono (by intro b t hb; simp at hb ⊢; first | done | (rcases hb with rfl | rfl | rfl | rfl <;> simp) | (simp [hb]; done)))).up hU11 hc5 (by simp)).trans (hF19.mono (by intro b t hb; simp at hb ⊢; first | done | (rcases hb with rfl | rfl | rfl | rfl <;> simp) | (simp [hb]; done)))).trans (hF29.mono (by intro b t hb; simp at hb ⊢; first | done | (rcases hb with rfl | rfl | rfl | rfl <;> simp) | (simp [hb]; done)))).trans (hF38.mono (by intro b t hb; simp at hb ⊢; first | done | (rcases hb with rfl | rfl | rfl | rfl <;> simp) | (simp [hb]; done)))), (by first | exact Nat.le_zero.mp hk9 | omega)⟩) dX2_begin_35 (Nat.le_of_ble_eq_true rfl) (Nat.le_of_ble_eq_true rfl)
def cF1 (g : Nat → Int32) (kd : Nat) : Nat → Int32 := upd g 19 (nI kd)
def cF2 (g : Nat → Int32) (kd : Nat) (pl : Int32) : Nat → Int32 := if g 2 = 0 then cRaise (cF1 g kd) 1 else if kd = 5 then (if cPas (cF1 g kd) pl = true then cF1 g kd else upd (cF1 g kd) 3 (g 3 + 8)) else upd (cF1 g kd) 3 (g 3 + 8)
def cFte (g : Nat → Int32) (kd : Nat) (pl : Int32) : Int32 := if g 2 = 0 then cRaise (cF1 g kd) 1 3 else if kd = 5 then (if cPas (cF1 g kd) pl = true then g 3 else g 3 + 8) else g 3 + 8
def cFailP (g : Nat → Int32) (kd : Nat) (pl ol : Int32) : Nat := if cFte g kd pl < ol then 5 else 1
def cFailG (g : Nat → Int32) (kd : Nat) (pl ol : Int32) : Nat → Int32 := if cFte g kd pl < ol then upd (upd (cF2 g kd pl) 5 0) 7 (if cPas (upd (cF2 g kd pl) 5 0) pl = true then 0 else 1) else upd (upd (cF2 g kd pl) 5 0) 6 0
def cFailE (e : Nat → Int32) (kd : Nat) : Nat → Int32 := upd e kd (e kd + 1)
set_option maxHeartbeats 4000000 in
theorem met_Nd_fail (l : Launch) (G : gG) (M : gM) (nd : Nat) (tn : Nat × Nat) (of : Nat) (ph : Nat) (cu : Option Nat) (sa : Nat) (wa : Nat) (rc : Nat) (an : Nat) (er : Nat) (g1 : Nat → Int32) (tb : Nat × Nat) (bn : Nat) (bd : Nat) (bh : Nat) (bt : Int32) (pl : Int32) (ol : Int32) (rv : Int32) (te : Nat × Nat) (e1 : Nat → Int32) (kd : Nat) (hkd : kd ≤ 5) (hM_0 : M nd = some (tn, .inr (2, ndL G of ph cu sa wa rc an er g1))) (hM_1 : M of = some (tb, .inr (1, [.ref bn, .ref bd, .ref bh, .int bt, .int pl, .int ol, .int rv]))) (hM_2 : M er = some (te, .inl (gcs G 0, 6, .inl e1))) : Met l yX2_fail (ws_ yX2_fail cX2_fail 2 none) ({ frames := 2, cells := 0, slots := 0, locals := 35 }) (gPc G [.ref nd, .int (nI kd)] M) (gQv G (fun M9 k9 => M9 nd = some (tn, .inr (2, ndL G of (cFailP g1 kd pl ol) cu sa wa rc an er (cFailG g1 kd pl ol))) ∧ M9 er = some (te, .inl (gcs G 0, 6, .inl (cFailE e1 kd))) ∧ gFr (gL [nd, er]) M M9 ∧ k9 = 0)) 0 0 (gA G) := by
  refine gMet [(0, .ref nd), (1, .int (nI kd))] (by decide) (Nat.le_of_ble_eq_true rfl) rfl ?_
  intro p e s m below meth c hC
  refine g_aload_n hC dX2_fail_0 0 rfl gRef_r 1 rfl ?_
  refine g_get (v := .ref er) hC cI2 hM_0 18 (Nat.le_of_ble_eq_true rfl) q406 rfl dX2_fail_1 4 rfl ?_
  refine g_iload_n hC dX2_fail_4 1 rfl 5 rfl ?_
  refine g_dup2 hC dX2_fail_5 rfl rfl 6 rfl ?_
  refine g_iald (v := e1 kd) hC hM_2 0 rfl (vp_in_nI (by omega) (by omega)) ((congrArg e1 (nI_clamp (by omega))).trans rfl) dX2_fail_6 7 rfl ?_
  refine g_iconst hC dX2_fail_7 ki_1 8 rfl ?_
  refine g_iadd hC dX2_fail_8 9 rfl ?_
  refine g_iast hC hM_2 0 rfl (vp_in_nI (by omega) (by omega)) kd (nI_clamp (by omega)) dX2_fail_9 10 rfl (fun M1 hU2 => ?_)
  obtain ⟨F3, eF4⟩ : ∃ z9, z9 = upd e1 kd ((e1 kd) + 1) := ⟨_, rfl⟩
  rw [← eF4] at hU2
  refine g_aload_n hC dX2_fail_10 0 rfl gRef_r 11 rfl ?_
  refine g_iload_n hC dX2_fail_11 1 rfl 12 rfl ?_
  obtain ⟨F7, eF8⟩ : ∃ z9, z9 = upd g1 19 (nI kd) := ⟨_, rfl⟩
  refine g_put hC cI2 (hU2.n (gne_oa hM_0 hM_2) hM_0) 19 (Nat.le_of_ble_eq_true rfl) q408 rfl rfl rfl (Nat.le_of_ble_eq_true rfl) dX2_fail_12 (fs' := ndL G of ph cu sa wa rc an er F7) (by rw [eF8]; exact ndL_s19) 15 rfl (fun M5 hU6 => ?_)
  refine g_aload_n hC dX2_fail_15 0 rfl gRef_r 16 rfl ?_
  refine g_get (v := .int (F7 2)) hC cI2 hU6.1 2 (Nat.le_of_ble_eq_true rfl) q372 rfl dX2_fail_16 19 rfl ?_
  refine g_topi (y := g1 2) (by rw [eF8, pk_un (by omega)]) ?_
  refine g_if_ne hC dX2_fail_19 30 rfl 22 rfl (fun c_9 => ?_) (fun c_9 => ?_)
  · refine g_iload_n hC dX2_fail_30 1 rfl 31 rfl ?_
    refine g_iconst hC dX2_fail_31 ki_5 32 rfl ?_
    refine g_icmp_ne hC dX2_fail_32 42 rfl 35 rfl (fun c_10 => ?_) (fun c_10 => ?_)
    · replace c_10 : ¬ kd = 5 := nn_neq (by omega) (by omega) c_10
      refine g_aload_n hC dX2_fail_42 0 rfl gRef_r 43 rfl ?_
      refine g_dup hC dX2_fail_43 rfl 44 rfl ?_
      refine g_get (v := .int (F7 3)) hC cI2 hU6.1 3 (Nat.le_of_ble_eq_true rfl) q374 rfl dX2_fail_44 47 rfl ?_
      refine g_topi (y := g1 3) (by rw [eF8, pk_un (by omega)]) ?_
      refine g_bipush hC dX2_fail_47 kb_8 49 rfl ?_
      refine g_iadd hC dX2_fail_49 50 rfl ?_
      obtain ⟨F13, eF14⟩ : ∃ z9, z9 = upd F7 3 ((g1 3) + 8) := ⟨_, rfl⟩
      refine g_put hC cI2 hU6.1 3 (Nat.le_of_ble_eq_true rfl) q374 rfl rfl rfl (Nat.le_of_ble_eq_true rfl) dX2_fail_50 (fs' := ndL G of ph cu sa wa rc an er F13) (by rw [eF14]; exact ndL_s3) 53 rfl (fun M11 hU12 => ?_)
      have hH15 := (hU12.n (gne_ao (hU6.n (gne_ao hU2.1 (hU2.n (gne_oa hM_0 hM_2) hM_0)) hU2.1) hU6.1) (hU6.n (gne_ao hU2.1 (hU2.n (gne_oa hM_0 hM_2) hM_0)) hU2.1))
      have hH16 := (hU12.n (gne_c (hU6.n (gne_c (hU2.n (gne_oa hM_1 hM_2) hM_1) (hU2.n (gne_oa hM_0 hM_2) hM_0) (by decide)) (hU2.n (gne_oa hM_1 hM_2) hM_1)) hU6.1 (by decide)) (hU6.n (gne_c (hU2.n (gne_oa hM_1 hM_2) hM_1) (hU2.n (gne_oa hM_0 hM_2) hM_0) (by decide)) (hU2.n (gne_oa hM_1 hM_2) hM_1)))
      refine g_aload_n hC dX2_fail_53 0 rfl gRef_r 54 rfl ?_
      refine g_get (v := .int (F13 3)) hC cI2 hU12.1 3 (Nat.le_of_ble_eq_true rfl) q374 rfl dX2_fail_54 57 rfl ?_
      refine g_topi (y := (g1 3) + 8) (by rw [eF14]; exact pk_us) ?_
      refine g_aload_n hC dX2_fail_57 0 rfl gRef_r 58 rfl ?_
      refine g_get (v := .ref of) hC cI2 hU12.1 0 (Nat.le_of_ble_eq_true rfl) q367 rfl dX2_fail_58 61 rfl ?_
      refine g_getN (v := .int ol) hC cI1 hH16 5 (Nat.le_of_ble_eq_true rfl) q482 rfl dX2_fail_61 64 rfl ?_
      refine g_icmp_lt hC dX2_fail_64 82 rfl 67 rfl (fun c_17 => ?_) (fun c_17 => ?_)
      · refine g_aload_n hC dX2_fail_82 0 rfl gRef_r 83 rfl ?_
        refine g_phase hC 5 (by decide) rfl q2203 dX2_fail_83 86 rfl ?_
        refine g_callv (g_V (As := [.ref (gph G 5)]) (rest := []) hC mvX2_enter q2135 (gOf.of hC.K cI2 hU12.1) (met_Nd_enter l G M11 nd tn of ph cu sa wa rc an er F13 5 hU12.1) ⟨rfl, rfl⟩ ⟨(Nat.le_of_ble_eq_true rfl), (Nat.le_of_ble_eq_true rfl)⟩ rfl (Nat.le_of_ble_eq_true rfl) dX2_fail_86 rfl ⟨(Nat.le_of_ble_eq_true rfl), (Nat.le_of_ble_eq_true rfl)⟩) 0 (Nat.le_of_ble_eq_true rfl) 0 (Nat.le_of_ble_eq_true rfl) 89 rfl (fun M18 k19 hp20 => ?_)
        obtain ⟨hc22, hF23, hk24⟩ := hp20
        obtain ⟨F25, eF26⟩ : ∃ z9, z9 = upd F13 5 0 := ⟨_, rfl⟩
        rw [← eF26] at hc22
        refine g_aload_n hC dX2_fail_89 0 rfl gRef_r 90 rfl ?_
        refine g_aload_n hC dX2_fail_90 0 rfl gRef_r 91 rfl ?_
        refine g_calliP (g_V (As := []) (rest := [.ref nd]) hC mvX2_isPassive q2197 (gOf.of hC.K cI2 hc22) (met_Nd_isPassive l G M18 nd tn of 5 cu sa wa rc an er F25 tb bn bd bh bt pl ol rv hc22 (hF23 _ _ _ hH16 (gno (gne_c hH16 hU12.1 (by decide)) gno0))) ⟨rfl, rfl⟩ ⟨(Nat.le_of_ble_eq_true rfl), (Nat.le_of_ble_eq_true rfl)⟩ rfl (Nat.le_of_ble_eq_true rfl) dX2_fail_91 rfl ⟨(Nat.le_of_ble_eq_true rfl), (Nat.le_of_ble_eq_true rfl)⟩) 94 rfl 0 (Nat.le_of_ble_eq_true rfl) ?_
        refine g_if_ne hC dX2_fail_94 101 rfl 97 rfl (fun c_27 => ?_) (fun c_27 => ?_)
        · replace c_27 : cPas F25 pl = true := bB_n0 c_27
          refine g_iconst hC dX2_fail_101 ki_0 102 rfl ?_
          obtain ⟨F30, eF31⟩ : ∃ z9, z9 = upd F25 7 0 := ⟨_, rfl⟩
          refine g_put hC cI2 hc22 7 (Nat.le_of_ble_eq_true rfl) q384 rfl (by decide) rfl (Nat.le_of_ble_eq_true rfl) dX2_fail_102 (fs' := ndL G of 5 cu sa wa rc an er F30) (by rw [eF31]; exact ndL_s7) 105 rfl (fun M28 hU29 => ?_)
          exact g_vret hC (fun k9 hk9 => ⟨(by rw [hU29.1]; simp only [cFailG, cFailP, cFte, cF2, cF1, cFailE, eq_false c_9, eq_false c_10, eq_true c_17, eq_true c_27, eq_false (Int32.not_le.mpr c_17), if_true, if_false, true_and, and_true, false_and, and_false, true_or, or_true, false_or, or_false, not_true_eq_false, not_false_eq_true, reduceIte, decide_true, decide_false, Bool.false_eq_true, ← eF4, ← eF8, ← eF14, ← eF26, ← eF31]), (by rw [(hU29.n (gne_ao (hF23 _ _ _ hH15 (gno (gne_ao hH15 hU12.1) gno0)) hc22) (hF23 _ _ _ hH15 (gno (gne_ao hH15 hU12.1) gno0)))]; simp only [cFailG, cFailP, cFte, cF2, cF1, cFailE, eq_false c_9, eq_false c_10, eq_true c_17, eq_true c_27, eq_false (Int32.not_le.mpr c_17), if_true, if_false, true_and, and_true, false_and, and_false, true_or, or_true, false_or, or_false, not_true_eq_false, not_false_eq_true, reduceIte, decide_true, decide_false, Bool.false_eq_true, ← eF4, ← eF8, ← eF14, ← eF26, ← eF31]), (((((gFr.refl.up hU2 hM_2 (by simp)).up hU6 (hU2.n (gne_oa hM_0 hM_2) hM_0) (by simp)).up hU12 hU6.1 (by simp)).trans (hF23.mono (by intro b t hb; simp at hb ⊢; first | done | (rcases hb with rfl | rfl | rfl | rfl <;> simp) | (simp [hb]; done)))).up hU29 hc22 (by simp)), (by first | exact Nat.le_zero.mp hk9 | omega)⟩) dX2_fail_105 (Nat.le_of_ble_eq_true rfl) (Nat.le_of_ble_eq_true rfl)
        · replace c_27 : cPas F25 pl = false := bB_e0 c_27
          refine g_iconst hC dX2_fail_97 ki_1 98 rfl ?_
          refine g_goto hC dX2_fail_98 102 rfl ?_
          obtain ⟨F34, eF35⟩ : ∃ z9, z9 = upd F25 7 1 := ⟨_, rfl⟩
          refine g_put hC cI2 hc22 7 (Nat.le_of_ble_eq_true rfl) q384 rfl (by decide) rfl (Nat.le_of_ble_eq_true rfl) dX2_fail_102 (fs' := ndL G of 5 cu sa wa rc an er F34) (by rw [eF35]; exact ndL_s7) 105 rfl (fun M32 hU33 => ?_)
          exact g_vret hC (fun k9 hk9 => ⟨(by rw [hU33.1]; simp only [cFailG, cFailP, cFte, cF2, cF1, cFailE, eq_false c_9, eq_false c_10, eq_true c_17, eq_false (bF_nt c_27), eq_true c_27, eq_false (Int32.not_le.mpr c_17), if_true, if_false, true_and, and_true, false_and, and_false, true_or, or_true, false_or, or_false, not_true_eq_false, not_false_eq_true, reduceIte, decide_true, decide_false, Bool.false_eq_true, ← eF4, ← eF8, ← eF14, ← eF26, ← eF35]), (by rw [(hU33.n (gne_ao (hF23 _ _ _ hH15 (gno (gne_ao hH15 hU12.1) gno0)) hc22) (hF23 _ _ _ hH15 (gno (gne_ao hH15 hU12.1) gno0)))]; simp only [cFailG, cFailP, cFte, cF2, cF1, cFailE, eq_false c_9, eq_false c_10, eq_true c_17, eq_false (bF_nt c_27), eq_true c_27, eq_false (Int32.not_le.mpr c_17), if_true, if_false, true_and, and_true, false_and, and_false, true_or, or_true, false_or, or_false, not_true_eq_false, not_false_eq_true, reduceIte, decide_true, decide_false, Bool.false_eq_true, ← eF4, ← eF8, ← eF14, ← eF26, ← eF35]), (((((gFr.refl.up hU2 hM_2 (by simp)).up hU6 (hU2.n (gne_oa hM_0 hM_2) hM_0) (by simp)).up hU12 hU6.1 (by simp)).trans (hF23.mono (by intro b t hb; simp at hb ⊢; first | done | (rcases hb with rfl | rfl | rfl | rfl <;> simp) | (simp [hb]; done)))).up hU33 hc22 (by simp)), (by first | exact Nat.le_zero.mp hk9 | omega)⟩) dX2_fail_105 (Nat.le_of_ble_eq_true rfl) (Nat.le_of_ble_eq_true rfl)
      · refine g_aload_n hC dX2_fail_67 0 rfl gRef_r 68 rfl ?_
        refine g_phase hC 1 (by decide) rfl q2201 dX2_fail_68 71 rfl ?_
        refine g_callv (g_V (As := [.ref (gph G 1)]) (rest := []) hC mvX2_enter q2135 (gOf.of hC.K cI2 hU12.1) (met_Nd_enter l G M11 nd tn of ph cu sa wa rc an er F13 1 hU12.1) ⟨rfl, rfl⟩ ⟨(Nat.le_of_ble_eq_true rfl), (Nat.le_of_ble_eq_true rfl)⟩ rfl (Nat.le_of_ble_eq_true rfl) dX2_fail_71 rfl ⟨(Nat.le_of_ble_eq_true rfl), (Nat.le_of_ble_eq_true rfl)⟩) 0 (Nat.le_of_ble_eq_true rfl) 0 (Nat.le_of_ble_eq_true rfl) 74 rfl (fun M36 k37 hp38 => ?_)
        obtain ⟨hc40, hF41, hk42⟩ := hp38
        obtain ⟨F43, eF44⟩ : ∃ z9, z9 = upd F13 5 0 := ⟨_, rfl⟩
        rw [← eF44] at hc40
        refine g_aload_n hC dX2_fail_74 0 rfl gRef_r 75 rfl ?_
        refine g_iconst hC dX2_fail_75 ki_0 76 rfl ?_
        obtain ⟨F47, eF48⟩ : ∃ z9, z9 = upd F43 6 0 := ⟨_, rfl⟩
        refine g_put hC cI2 hc40 6 (Nat.le_of_ble_eq_true rfl) q382 rfl rfl rfl (Nat.le_of_ble_eq_true rfl) dX2_fail_76 (fs' := ndL G of 1 cu sa wa rc an er F47) (by rw [eF48]; exact ndL_s6) 79 rfl (fun M45 hU46 => ?_)
        refine g_goto hC dX2_fail_79 105 rfl ?_
        exact g_vret hC (fun k9 hk9 => ⟨(by rw [hU46.1]; simp only [cFailG, cFailP, cFte, cF2, cF1, cFailE, eq_false c_9, eq_false c_10, eq_false c_17, eq_true (Int32.not_lt.mp c_17), if_true, if_false, true_and, and_true, false_and, and_false, true_or, or_true, false_or, or_false, not_true_eq_false, not_false_eq_true, reduceIte, decide_true, decide_false, Bool.false_eq_true, ← eF4, ← eF8, ← eF14, ← eF44, ← eF48]), (by rw [(hU46.n (gne_ao (hF41 _ _ _ hH15 (gno (gne_ao hH15 hU12.1) gno0)) hc40) (hF41 _ _ _ hH15 (gno (gne_ao hH15 hU12.1) gno0)))]; simp only [cFailG, cFailP, cFte, cF2, cF1, cFailE, eq_false c_9, eq_false c_10, eq_false c_17, eq_true (Int32.not_lt.mp c_17), if_true, if_false, true_and, and_true, false_and, and_false, true_or, or_true, false_or, or_false, not_true_eq_false, not_false_eq_true, reduceIte, decide_true, decide_false, Bool.false_eq_true, ← eF4, ← eF8, ← eF14, ← eF44, ← eF48]), (((((gFr.refl.up hU2 hM_2 (by simp)).up hU6 (hU2.n (gne_oa hM_0 hM_2) hM_0) (by simp)).up hU12 hU6.1 (by simp)).trans (hF41.mono (by intro b t hb; simp at hb ⊢; first | done | (rcases hb with rfl | rfl | rfl | rfl <;> simp) | (simp [hb]; done)))).up hU46 hc40 (by simp)), (by first | exact Nat.le_zero.mp hk9 | omega)⟩) dX2_fail_105 (Nat.le_of_ble_eq_true rfl) (Nat.le_of_ble_eq_true rfl)
    · replace c_10 : kd = 5 := nn_eq (by omega) (by omega) c_10
      refine g_aload_n hC dX2_fail_35 0 rfl gRef_r 36 rfl ?_
      refine g_calliP (g_V (As := []) (rest := []) hC mvX2_isPassive q2197 (gOf.of hC.K cI2 hU6.1) (met_Nd_isPassive l G M5 nd tn of ph cu sa wa rc an er F7 tb bn bd bh bt pl ol rv hU6.1 (hU6.n (gne_c (hU2.n (gne_oa hM_1 hM_2) hM_1) (hU2.n (gne_oa hM_0 hM_2) hM_0) (by decide)) (hU2.n (gne_oa hM_1 hM_2) hM_1))) ⟨rfl, rfl⟩ ⟨(Nat.le_of_ble_eq_true rfl), (Nat.le_of_ble_eq_true rfl)⟩ rfl (Nat.le_of_ble_eq_true rfl) dX2_fail_36 rfl ⟨(Nat.le_of_ble_eq_true rfl), (Nat.le_of_ble_eq_true rfl)⟩) 39 rfl 0 (Nat.le_of_ble_eq_true rfl) ?_
      refine g_if_ne hC dX2_fail_39 53 rfl 42 rfl (fun c_49 => ?_) (fun c_49 => ?_)
      · replace c_49 : cPas F7 pl = true := bB_n0 c_49
        refine g_aload_n hC dX2_fail_53 0 rfl gRef_r 54 rfl ?_
        refine g_get (v := .int (F7 3)) hC cI2 hU6.1 3 (Nat.le_of_ble_eq_true rfl) q374 rfl dX2_fail_54 57 rfl ?_
        refine g_topi (y := g1 3) (by rw [eF8, pk_un (by omega)]) ?_
        refine g_aload_n hC dX2_fail_57 0 rfl gRef_r 58 rfl ?_
        refine g_get (v := .ref of) hC cI2 hU6.1 0 (Nat.le_of_ble_eq_true rfl) q367 rfl dX2_fail_58 61 rfl ?_
        refine g_getN (v := .int ol) hC cI1 (hU6.n (gne_c (hU2.n (gne_oa hM_1 hM_2) hM_1) (hU2.n (gne_oa hM_0 hM_2) hM_0) (by decide)) (hU2.n (gne_oa hM_1 hM_2) hM_1)) 5 (Nat.le_of_ble_eq_true rfl) q482 rfl dX2_fail_61 64 rfl ?_
        refine g_icmp_lt hC dX2_fail_64 82 rfl 67 rfl (fun c_50 => ?_) (fun c_50 => ?_)
        · refine g_aload_n hC dX2_fail_82 0 rfl gRef_r 83 rfl ?_
          refine g_phase hC 5 (by decide) rfl q2203 dX2_fail_83 86 rfl ?_
          refine g_callv (g_V (As := [.ref (gph G 5)]) (rest := []) hC mvX2_enter q2135 (gOf.of hC.K cI2 hU6.1) (met_Nd_enter l G M5 nd tn of ph cu sa wa rc an er F7 5 hU6.1) ⟨rfl, rfl⟩ ⟨(Nat.le_of_ble_eq_true rfl), (Nat.le_of_ble_eq_true rfl)⟩ rfl (Nat.le_of_ble_eq_true rfl) dX2_fail_86 rfl ⟨(Nat.le_of_ble_eq_true rfl), (Nat.le_of_ble_eq_true rfl)⟩) 0 (Nat.le_of_ble_eq_true rfl) 0 (Nat.le_of_ble_eq_true rfl) 89 rfl (fun M51 k52 hp53 => ?_)
          obtain ⟨hc55, hF56, hk57⟩ := hp53
          obtain ⟨F58, eF59⟩ : ∃ z9, z9 = upd F7 5 0 := ⟨_, rfl⟩
          rw [← eF59] at hc55
          have hH60 := (hF56 _ _ _ (hU6.n (gne_ao hU2.1 (hU2.n (gne_oa hM_0 hM_2) hM_0)) hU2.1) (gno (gne_ao (hU6.n (gne_ao hU2.1 (hU2.n (gne_oa hM_0 hM_2) hM_0)) hU2.1) hU6.1) gno0))
          have hH61 := (hF56 _ _ _ (hU6.n (gne_c (hU2.n (gne_oa hM_1 hM_2) hM_1) (hU2.n (gne_oa hM_0 hM_2) hM_0) (by decide)) (hU2.n (gne_oa hM_1 hM_2) hM_1)) (gno (gne_c (hU6.n (gne_c (hU2.n (gne_oa hM_1 hM_2) hM_1) (hU2.n (gne_oa hM_0 hM_2) hM_0) (by decide)) (hU2.n (gne_oa hM_1 hM_2) hM_1)) hU6.1 (by decide)) gno0))
          refine g_aload_n hC dX2_fail_89 0 rfl gRef_r 90 rfl ?_
          refine g_aload_n hC dX2_fail_90 0 rfl gRef_r 91 rfl ?_
          refine g_calliP (g_V (As := []) (rest := [.ref nd]) hC mvX2_isPassive q2197 (gOf.of hC.K cI2 hc55) (met_Nd_isPassive l G M51 nd tn of 5 cu sa wa rc an er F58 tb bn bd bh bt pl ol rv hc55 hH61) ⟨rfl, rfl⟩ ⟨(Nat.le_of_ble_eq_true rfl), (Nat.le_of_ble_eq_true rfl)⟩ rfl (Nat.le_of_ble_eq_true rfl) dX2_fail_91 rfl ⟨(Nat.le_of_ble_eq_true rfl), (Nat.le_of_ble_eq_true rfl)⟩) 94 rfl 0 (Nat.le_of_ble_eq_true rfl) ?_
          refine g_if_ne hC dX2_fail_94 101 rfl 97 rfl (fun c_62 => ?_) (fun c_62 => ?_)
          · replace c_62 : cPas F58 pl = true := bB_n0 c_62
            refine g_iconst hC dX2_fail_101 ki_0 102 rfl ?_
            obtain ⟨F65, eF66⟩ : ∃ z9, z9 = upd F58 7 0 := ⟨_, rfl⟩
            refine g_put hC cI2 hc55 7 (Nat.le_of_ble_eq_true rfl) q384 rfl (by decide) rfl (Nat.le_of_ble_eq_true rfl) dX2_fail_102 (fs' := ndL G of 5 cu sa wa rc an er F65) (by rw [eF66]; exact ndL_s7) 105 rfl (fun M63 hU64 => ?_)
            exact g_vret hC (fun k9 hk9 => ⟨(by rw [hU64.1]; simp only [cFailG, cFailP, cFte, cF2, cF1, cFailE, eq_false c_9, eq_true c_10, eq_true c_49, eq_true c_50, eq_true c_62, eq_false (Int32.not_le.mpr c_50), if_true, if_false, true_and, and_true, false_and, and_false, true_or, or_true, false_or, or_false, not_true_eq_false, not_false_eq_true, reduceIte, decide_true, decide_false, Bool.false_eq_true, ← eF4, ← eF8, ← eF59, ← eF66]), (by rw [(hU64.n (gne_ao hH60 hc55) hH60)]; simp only [cFailG, cFailP, cFte, cF2, cF1, cFailE, eq_false c_9, eq_true c_10, eq_true c_49, eq_true c_50, eq_true c_62, eq_false (Int32.not_le.mpr c_50), if_true, if_false, true_and, and_true, false_and, and_false, true_or, or_true, false_or, or_false, not_true_eq_false, not_false_eq_true, reduceIte, decide_true, decide_false, Bool.false_eq_true, ← eF4, ← eF8, ← eF59, ← eF66]), ((((gFr.refl.up hU2 hM_2 (by simp)).up hU6 (hU2.n (gne_oa hM_0 hM_2) hM_0) (by simp)).trans (hF56.mono (by intro b t hb; simp at hb ⊢; first | done | (rcases hb with rfl | rfl | rfl | rfl <;> simp) | (simp [hb]; done)))).up hU64 hc55 (by simp)), (by first | exact Nat.le_zero.mp hk9 | omega)⟩) dX2_fail_105 (Nat.le_of_ble_eq_true rfl) (Nat.le_of_ble_eq_true rfl)
          · replace c_62 : cPas F58 pl = false := bB_e0 c_62
            refine g_iconst hC dX2_fail_97 ki_1 98 rfl ?_
            refine g_goto hC dX2_fail_98 102 rfl ?_
            obtain ⟨F69, eF70⟩ : ∃ z9, z9 = upd F58 7 1 := ⟨_, rfl⟩
            refine g_put hC cI2 hc55 7 (Nat.le_of_ble_eq_true rfl) q384 rfl (by decide) rfl (Nat.le_of_ble_eq_true rfl) dX2_fail_102 (fs' := ndL G of 5 cu sa wa rc an er F69) (by rw [eF70]; exact ndL_s7) 105 rfl (fun M67 hU68 => ?_)
            exact g_vret hC (fun k9 hk9 => ⟨(by rw [hU68.1]; simp only [cFailG, cFailP, cFte, cF2, cF1, cFailE, eq_false c_9, eq_true c_10, eq_true c_49, eq_true c_50, eq_false (bF_nt c_62), eq_true c_62, eq_false (Int32.not_le.mpr c_50), if_true, if_false, true_and, and_true, false_and, and_false, true_or, or_true, false_or, or_false, not_true_eq_false, not_false_eq_true, reduceIte, decide_true, decide_false, Bool.false_eq_true, ← eF4, ← eF8, ← eF59, ← eF70]), (by rw [(hU68.n (gne_ao hH60 hc55) hH60)]; simp only [cFailG, cFailP, cFte, cF2, cF1, cFailE, eq_false c_9, eq_true c_10, eq_true c_49, eq_true c_50, eq_false (bF_nt c_62), eq_true c_62, eq_false (Int32.not_le.mpr c_50), if_true, if_false, true_and, and_true, false_and, and_false, true_or, or_true, false_or, or_false, not_true_eq_false, not_false_eq_true, reduceIte, decide_true, decide_false, Bool.false_eq_true, ← eF4, ← eF8, ← eF59, ← eF70]), ((((gFr.refl.up hU2 hM_2 (by simp)).up hU6 (hU2.n (gne_oa hM_0 hM_2) hM_0) (by simp)).trans (hF56.mono (by intro b t hb; simp at hb ⊢; first | done | (rcases hb with rfl | rfl | rfl | rfl <;> simp) | (simp [hb]; done)))).up hU68 hc55 (by simp)), (by first | exact Nat.le_zero.mp hk9 | omega)⟩) dX2_fail_105 (Nat.le_of_ble_eq_true rfl) (Nat.le_of_ble_eq_true rfl)
        · refine g_aload_n hC dX2_fail_67 0 rfl gRef_r 68 rfl ?_
          refine g_phase hC 1 (by decide) rfl q2201 dX2_fail_68 71 rfl ?_
          refine g_callv (g_V (As := [.ref (gph G 1)]) (rest := []) hC mvX2_enter q2135 (gOf.of hC.K cI2 hU6.1) (met_Nd_enter l G M5 nd tn of ph cu sa wa rc an er F7 1 hU6.1) ⟨rfl, rfl⟩ ⟨(Nat.le_of_ble_eq_true rfl), (Nat.le_of_ble_eq_true rfl)⟩ rfl (Nat.le_of_ble_eq_true rfl) dX2_fail_71 rfl ⟨(Nat.le_of_ble_eq_true rfl), (Nat.le_of_ble_eq_true rfl)⟩) 0 (Nat.le_of_ble_eq_true rfl) 0 (Nat.le_of_ble_eq_true rfl) 74 rfl (fun M71 k72 hp73 => ?_)
          obtain ⟨hc75, hF76, hk77⟩ := hp73
          obtain ⟨F78, eF79⟩ : ∃ z9, z9 = upd F7 5 0 := ⟨_, rfl⟩
          rw [← eF79] at hc75
          have hH80 := (hF76 _ _ _ (hU6.n (gne_ao hU2.1 (hU2.n (gne_oa hM_0 hM_2) hM_0)) hU2.1) (gno (gne_ao (hU6.n (gne_ao hU2.1 (hU2.n (gne_oa hM_0 hM_2) hM_0)) hU2.1) hU6.1) gno0))
          have hH81 := (hF76 _ _ _ (hU6.n (gne_c (hU2.n (gne_oa hM_1 hM_2) hM_1) (hU2.n (gne_oa hM_0 hM_2) hM_0) (by decide)) (hU2.n (gne_oa hM_1 hM_2) hM_1)) (gno (gne_c (hU6.n (gne_c (hU2.n (gne_oa hM_1 hM_2) hM_1) (hU2.n (gne_oa hM_0 hM_2) hM_0) (by decide)) (hU2.n (gne_oa hM_1 hM_2) hM_1)) hU6.1 (by decide)) gno0))
          refine g_aload_n hC dX2_fail_74 0 rfl gRef_r 75 rfl ?_
          refine g_iconst hC dX2_fail_75 ki_0 76 rfl ?_
          obtain ⟨F84, eF85⟩ : ∃ z9, z9 = upd F78 6 0 := ⟨_, rfl⟩
          refine g_put hC cI2 hc75 6 (Nat.le_of_ble_eq_true rfl) q382 rfl rfl rfl (Nat.le_of_ble_eq_true rfl) dX2_fail_76 (fs' := ndL G of 1 cu sa wa rc an er F84) (by rw [eF85]; exact ndL_s6) 79 rfl (fun M82 hU83 => ?_)
          refine g_goto hC dX2_fail_79 105 rfl ?_
          exact g_vret hC (fun k9 hk9 => ⟨(by rw [hU83.1]; simp only [cFailG, cFailP, cFte, cF2, cF1, cFailE, eq_false c_9, eq_true c_10, eq_true c_49, eq_false c_50, eq_true (Int32.not_lt.mp c_50), if_true, if_false, true_and, and_true, false_and, and_false, true_or, or_true, false_or, or_false, not_true_eq_false, not_false_eq_true, reduceIte, decide_true, decide_false, Bool.false_eq_true, ← eF4, ← eF8, ← eF79, ← eF85]), (by rw [(hU83.n (gne_ao hH80 hc75) hH80)]; simp only [cFailG, cFailP, cFte, cF2, cF1, cFailE, eq_false c_9, eq_true c_10, eq_true c_49, eq_false c_50, eq_true (Int32.not_lt.mp c_50), if_true, if_false, true_and, and_true, false_and, and_false, true_or, or_true, false_or, or_false, not_true_eq_false, not_false_eq_true, reduceIte, decide_true, decide_false, Bool.false_eq_true, ← eF4, ← eF8, ← eF79, ← eF85]), ((((gFr.refl.up hU2 hM_2 (by simp)).up hU6 (hU2.n (gne_oa hM_0 hM_2) hM_0) (by simp)).trans (hF76.mono (by intro b t hb; simp at hb ⊢; first | done | (rcases hb with rfl | rfl | rfl | rfl <;> simp) | (simp [hb]; done)))).up hU83 hc75 (by simp)), (by first | exact Nat.le_zero.mp hk9 | omega)⟩) dX2_fail_105 (Nat.le_of_ble_eq_true rfl) (Nat.le_of_ble_eq_true rfl)
      · replace c_49 : cPas F7 pl = false := bB_e0 c_49
        refine g_aload_n hC dX2_fail_42 0 rfl gRef_r 43 rfl ?_
        refine g_dup hC dX2_fail_43 rfl 44 rfl ?_
        refine g_get (v := .int (F7 3)) hC cI2 hU6.1 3 (Nat.le_of_ble_eq_true rfl) q374 rfl dX2_fail_44 47 rfl ?_
        refine g_topi (y := g1 3) (by rw [eF8, pk_un (by omega)]) ?_
        refine g_bipush hC dX2_fail_47 kb_8 49 rfl ?_
        refine g_iadd hC dX2_fail_49 50 rfl ?_
        obtain ⟨F88, eF89⟩ : ∃ z9, z9 = upd F7 3 ((g1 3) + 8) := ⟨_, rfl⟩
        refine g_put hC cI2 hU6.1 3 (Nat.le_of_ble_eq_true rfl) q374 rfl rfl rfl (Nat.le_of_ble_eq_true rfl) dX2_fail_50 (fs' := ndL G of ph cu sa wa rc an er F88) (by rw [eF89]; exact ndL_s3) 53 rfl (fun M86 hU87 => ?_)
        have hH90 := (hU87.n (gne_ao (hU6.n (gne_ao hU2.1 (hU2.n (gne_oa hM_0 hM_2) hM_0)) hU2.1) hU6.1) (hU6.n (gne_ao hU2.1 (hU2.n (gne_oa hM_0 hM_2) hM_0)) hU2.1))
        have hH91 := (hU87.n (gne_c (hU6.n (gne_c (hU2.n (gne_oa hM_1 hM_2) hM_1) (hU2.n (gne_oa hM_0 hM_2) hM_0) (by decide)) (hU2.n (gne_oa hM_1 hM_2) hM_1)) hU6.1 (by decide)) (hU6.n (gne_c (hU2.n (gne_oa hM_1 hM_2) hM_1) (hU2.n (gne_oa hM_0 hM_2) hM_0) (by decide)) (hU2.n (gne_oa hM_1 hM_2) hM_1)))
        refine g_aload_n hC dX2_fail_53 0 rfl gRef_r 54 rfl ?_
        refine g_get (v := .int (F88 3)) hC cI2 hU87.1 3 (Nat.le_of_ble_eq_true rfl) q374 rfl dX2_fail_54 57 rfl ?_
        refine g_topi (y := (g1 3) + 8) (by rw [eF89]; exact pk_us) ?_
        refine g_aload_n hC dX2_fail_57 0 rfl gRef_r 58 rfl ?_
        refine g_get (v := .ref of) hC cI2 hU87.1 0 (Nat.le_of_ble_eq_true rfl) q367 rfl dX2_fail_58 61 rfl ?_
        refine g_getN (v := .int ol) hC cI1 hH91 5 (Nat.le_of_ble_eq_true rfl) q482 rfl dX2_fail_61 64 rfl ?_
        refine g_icmp_lt hC dX2_fail_64 82 rfl 67 rfl (fun c_92 => ?_) (fun c_92 => ?_)
        · refine g_aload_n hC dX2_fail_82 0 rfl gRef_r 83 rfl ?_
          refine g_phase hC 5 (by decide) rfl q2203 dX2_fail_83 86 rfl ?_
          refine g_callv (g_V (As := [.ref (gph G 5)]) (rest := []) hC mvX2_enter q2135 (gOf.of hC.K cI2 hU87.1) (met_Nd_enter l G M86 nd tn of ph cu sa wa rc an er F88 5 hU87.1) ⟨rfl, rfl⟩ ⟨(Nat.le_of_ble_eq_true rfl), (Nat.le_of_ble_eq_true rfl)⟩ rfl (Nat.le_of_ble_eq_true rfl) dX2_fail_86 rfl ⟨(Nat.le_of_ble_eq_true rfl), (Nat.le_of_ble_eq_true rfl)⟩) 0 (Nat.le_of_ble_eq_true rfl) 0 (Nat.le_of_ble_eq_true rfl) 89 rfl (fun M93 k94 hp95 => ?_)
          obtain ⟨hc97, hF98, hk99⟩ := hp95
          obtain ⟨F100, eF101⟩ : ∃ z9, z9 = upd F88 5 0 := ⟨_, rfl⟩
          rw [← eF101] at hc97
          refine g_aload_n hC dX2_fail_89 0 rfl gRef_r 90 rfl ?_
          refine g_aload_n hC dX2_fail_90 0 rfl gRef_r 91 rfl ?_
          refine g_calliP (g_V (As := []) (rest := [.ref nd]) hC mvX2_isPassive q2197 (gOf.of hC.K cI2 hc97) (met_Nd_isPassive l G M93 nd tn of 5 cu sa wa rc an er F100 tb bn bd bh bt pl ol rv hc97 (hF98 _ _ _ hH91 (gno (gne_c hH91 hU87.1 (by decide)) gno0))) ⟨rfl, rfl⟩ ⟨(Nat.le_of_ble_eq_true rfl), (Nat.le_of_ble_eq_true rfl)⟩ rfl (Nat.le_of_ble_eq_true rfl) dX2_fail_91 rfl ⟨(Nat.le_of_ble_eq_true rfl), (Nat.le_of_ble_eq_true rfl)⟩) 94 rfl 0 (Nat.le_of_ble_eq_true rfl) ?_
          refine g_if_ne hC dX2_fail_94 101 rfl 97 rfl (fun c_102 => ?_) (fun c_102 => ?_)
          · replace c_102 : cPas F100 pl = true := bB_n0 c_102
            refine g_iconst hC dX2_fail_101 ki_0 102 rfl ?_
            obtain ⟨F105, eF106⟩ : ∃ z9, z9 = upd F100 7 0 := ⟨_, rfl⟩
            refine g_put hC cI2 hc97 7 (Nat.le_of_ble_eq_true rfl) q384 rfl (by decide) rfl (Nat.le_of_ble_eq_true rfl) dX2_fail_102 (fs' := ndL G of 5 cu sa wa rc an er F105) (by rw [eF106]; exact ndL_s7) 105 rfl (fun M103 hU104 => ?_)
            exact g_vret hC (fun k9 hk9 => ⟨(by rw [hU104.1]; simp only [cFailG, cFailP, cFte, cF2, cF1, cFailE, eq_false c_9, eq_true c_10, eq_false (bF_nt c_49), eq_true c_49, eq_true c_92, eq_true c_102, eq_false (Int32.not_le.mpr c_92), if_true, if_false, true_and, and_true, false_and, and_false, true_or, or_true, false_or, or_false, not_true_eq_false, not_false_eq_true, reduceIte, decide_true, decide_false, Bool.false_eq_true, ← eF4, ← eF8, ← eF89, ← eF101, ← eF106]), (by rw [(hU104.n (gne_ao (hF98 _ _ _ hH90 (gno (gne_ao hH90 hU87.1) gno0)) hc97) (hF98 _ _ _ hH90 (gno (gne_ao hH90 hU87.1) gno0)))]; simp only [cFailG, cFailP, cFte, cF2, cF1, cFailE, eq_false c_9, eq_true c_10, eq_false (bF_nt c_49), eq_true c_49, eq_true c_92, eq_true c_102, eq_false (Int32.not_le.mpr c_92), if_true, if_false, true_and, and_true, false_and, and_false, true_or, or_true, false_or, or_false, not_true_eq_false, not_false_eq_true, reduceIte, decide_true, decide_false, Bool.false_eq_true, ← eF4, ← eF8, ← eF89, ← eF101, ← eF106]), (((((gFr.refl.up hU2 hM_2 (by simp)).up hU6 (hU2.n (gne_oa hM_0 hM_2) hM_0) (by simp)).up hU87 hU6.1 (by simp)).trans (hF98.mono (by intro b t hb; simp at hb ⊢; first | done | (rcases hb with rfl | rfl | rfl | rfl <;> simp) | (simp [hb]; done)))).up hU104 hc97 (by simp)), (by first | exact Nat.le_zero.mp hk9 | omega)⟩) dX2_fail_105 (Nat.le_of_ble_eq_true rfl) (Nat.le_of_ble_eq_true rfl)
          · replace c_102 : cPas F100 pl = false := bB_e0 c_102
            refine g_iconst hC dX2_fail_97 ki_1 98 rfl ?_
            refine g_goto hC dX2_fail_98 102 rfl ?_
            obtain ⟨F109, eF110⟩ : ∃ z9, z9 = upd F100 7 1 := ⟨_, rfl⟩
            refine g_put hC cI2 hc97 7 (Nat.le_of_ble_eq_true rfl) q384 rfl (by decide) rfl (Nat.le_of_ble_eq_true rfl) dX2_fail_102 (fs' := ndL G of 5 cu sa wa rc an er F109) (by rw [eF110]; exact ndL_s7) 105 rfl (fun M107 hU108 => ?_)
            exact g_vret hC (fun k9 hk9 => ⟨(by rw [hU108.1]; simp only [cFailG, cFailP, cFte, cF2, cF1, cFailE, eq_false c_9, eq_true c_10, eq_false (bF_nt c_49), eq_true c_49, eq_true c_92, eq_false (bF_nt c_102), eq_true c_102, eq_false (Int32.not_le.mpr c_92), if_true, if_false, true_and, and_true, false_and, and_false, true_or, or_true, false_or, or_false, not_true_eq_false, not_false_eq_true, reduceIte, decide_true, decide_false, Bool.false_eq_true, ← eF4, ← eF8, ← eF89, ← eF101, ← eF110]), (by rw [(hU108.n (gne_ao (hF98 _ _ _ hH90 (gno (gne_ao hH90 hU87.1) gno0)) hc97) (hF98 _ _ _ hH90 (gno (gne_ao hH90 hU87.1) gno0)))]; simp only [cFailG, cFailP, cFte, cF2, cF1, cFailE, eq_false c_9, eq_true c_10, eq_false (bF_nt c_49), eq_true c_49, eq_true c_92, eq_false (bF_nt c_102), eq_true c_102, eq_false (Int32.not_le.mpr c_92), if_true, if_false, true_and, and_true, false_and, and_false, true_or, or_true, false_or, or_false, not_true_eq_false, not_false_eq_true, reduceIte, decide_true, decide_false, Bool.false_eq_true, ← eF4, ← eF8, ← eF89, ← eF101, ← eF110]), (((((gFr.refl.up hU2 hM_2 (by simp)).up hU6 (hU2.n (gne_oa hM_0 hM_2) hM_0) (by simp)).up hU87 hU6.1 (by simp)).trans (hF98.mono (by intro b t hb; simp at hb ⊢; first | done | (rcases hb with rfl | rfl | rfl | rfl <;> simp) | (simp [hb]; done)))).up hU108 hc97 (by simp)), (by first | exact Nat.le_zero.mp hk9 | omega)⟩) dX2_fail_105 (Nat.le_of_ble_eq_true rfl) (Nat.le_of_ble_eq_true rfl)
        · refine g_aload_n hC dX2_fail_67 0 rfl gRef_r 68 rfl ?_
          refine g_phase hC 1 (by decide) rfl q2201 dX2_fail_68 71 rfl ?_
          refine g_callv (g_V (As := [.ref (gph G 1)]) (rest := []) hC mvX2_enter q2135 (gOf.of hC.K cI2 hU87.1) (met_Nd_enter l G M86 nd tn of ph cu sa wa rc an er F88 1 hU87.1) ⟨rfl, rfl⟩ ⟨(Nat.le_of_ble_eq_true rfl), (Nat.le_of_ble_eq_true rfl)⟩ rfl (Nat.le_of_ble_eq_true rfl) dX2_fail_71 rfl ⟨(Nat.le_of_ble_eq_true rfl), (Nat.le_of_ble_eq_true rfl)⟩) 0 (Nat.le_of_ble_eq_true rfl) 0 (Nat.le_of_ble_eq_true rfl) 74 rfl (fun M111 k112 hp113 => ?_)
          obtain ⟨hc115, hF116, hk117⟩ := hp113
          obtain ⟨F118, eF119⟩ : ∃ z9, z9 = upd F88 5 0 := ⟨_, rfl⟩
          rw [← eF119] at hc115
          refine g_aload_n hC dX2_fail_74 0 rfl gRef_r 75 rfl ?_
          refine g_iconst hC dX2_fail_75 ki_0 76 rfl ?_
          obtain ⟨F122, eF123⟩ : ∃ z9, z9 = upd F118 6 0 := ⟨_, rfl⟩
          refine g_put hC cI2 hc115 6 (Nat.le_of_ble_eq_true rfl) q382 rfl rfl rfl (Nat.le_of_ble_eq_true rfl) dX2_fail_76 (fs' := ndL G of 1 cu sa wa rc an er F122) (by rw [eF123]; exact ndL_s6) 79 rfl (fun M120 hU121 => ?_)
          refine g_goto hC dX2_fail_79 105 rfl ?_
          exact g_vret hC (fun k9 hk9 => ⟨(by rw [hU121.1]; simp only [cFailG, cFailP, cFte, cF2, cF1, cFailE, eq_false c_9, eq_true c_10, eq_false (bF_nt c_49), eq_true c_49, eq_false c_92, eq_true (Int32.not_lt.mp c_92), if_true, if_false, true_and, and_true, false_and, and_false, true_or, or_true, false_or, or_false, not_true_eq_false, not_false_eq_true, reduceIte, decide_true, decide_false, Bool.false_eq_true, ← eF4, ← eF8, ← eF89, ← eF119, ← eF123]), (by rw [(hU121.n (gne_ao (hF116 _ _ _ hH90 (gno (gne_ao hH90 hU87.1) gno0)) hc115) (hF116 _ _ _ hH90 (gno (gne_ao hH90 hU87.1) gno0)))]; simp only [cFailG, cFailP, cFte, cF2, cF1, cFailE, eq_false c_9, eq_true c_10, eq_false (bF_nt c_49), eq_true c_49, eq_false c_92, eq_true (Int32.not_lt.mp c_92), if_true, if_false, true_and, and_true, false_and, and_false, true_or, or_true, false_or, or_false, not_true_eq_false, not_false_eq_true, reduceIte, decide_true, decide_false, Bool.false_eq_true, ← eF4, ← eF8, ← eF89, ← eF119, ← eF123]), (((((gFr.refl.up hU2 hM_2 (by simp)).up hU6 (hU2.n (gne_oa hM_0 hM_2) hM_0) (by simp)).up hU87 hU6.1 (by simp)).trans (hF116.mono (by intro b t hb; simp at hb ⊢; first | done | (rcases hb with rfl | rfl | rfl | rfl <;> simp) | (simp [hb]; done)))).up hU121 hc115 (by simp)), (by first | exact Nat.le_zero.mp hk9 | omega)⟩) dX2_fail_105 (Nat.le_of_ble_eq_true rfl) (Nat.le_of_ble_eq_true rfl)
  · refine g_aload_n hC dX2_fail_22 0 rfl gRef_r 23 rfl ?_
    refine g_iconst hC dX2_fail_23 ki_1 24 rfl ?_
    refine g_callv (g_V (As := [.int 1]) (rest := []) hC mvX2_raiseReceiveErrors q2192 (gOf.of hC.K cI2 hU6.1) (met_Nd_raise l G M5 nd tn of ph cu sa wa rc an er F7 1 hU6.1) ⟨rfl, rfl⟩ ⟨(Nat.le_of_ble_eq_true rfl), (Nat.le_of_ble_eq_true rfl)⟩ rfl (Nat.le_of_ble_eq_true rfl) dX2_fail_24 rfl ⟨(Nat.le_of_ble_eq_true rfl), (Nat.le_of_ble_eq_true rfl)⟩) 0 (Nat.le_of_ble_eq_true rfl) 0 (Nat.le_of_ble_eq_true rfl) 27 rfl (fun M124 k125 hp126 => ?_)
    obtain ⟨hc128, hF129, hk130⟩ := hp126
    obtain ⟨F131, eF132⟩ : ∃ z9, z9 = cRaise F7 1 := ⟨_, rfl⟩
    rw [← eF132] at hc128
    have hH133 := (hF129 _ _ _ (hU6.n (gne_ao hU2.1 (hU2.n (gne_oa hM_0 hM_2) hM_0)) hU2.1) (gno (gne_ao (hU6.n (gne_ao hU2.1 (hU2.n (gne_oa hM_0 hM_2) hM_0)) hU2.1) hU6.1) gno0))
    have hH134 := (hF129 _ _ _ (hU6.n (gne_c (hU2.n (gne_oa hM_1 hM_2) hM_1) (hU2.n (gne_oa hM_0 hM_2) hM_0) (by decide)) (hU2.n (gne_oa hM_1 hM_2) hM_1)) (gno (gne_c (hU6.n (gne_c (hU2.n (gne_oa hM_1 hM_2) hM_1) (hU2.n (gne_oa hM_0 hM_2) hM_0) (by decide)) (hU2.n (gne_oa hM_1 hM_2) hM_1)) hU6.1 (by decide)) gno0))
    refine g_goto hC dX2_fail_27 53 rfl ?_
    refine g_aload_n hC dX2_fail_53 0 rfl gRef_r 54 rfl ?_
    refine g_get (v := .int (F131 3)) hC cI2 hc128 3 (Nat.le_of_ble_eq_true rfl) q374 rfl dX2_fail_54 57 rfl ?_
    refine g_aload_n hC dX2_fail_57 0 rfl gRef_r 58 rfl ?_
    refine g_get (v := .ref of) hC cI2 hc128 0 (Nat.le_of_ble_eq_true rfl) q367 rfl dX2_fail_58 61 rfl ?_
    refine g_getN (v := .int ol) hC cI1 hH134 5 (Nat.le_of_ble_eq_true rfl) q482 rfl dX2_fail_61 64 rfl ?_
    refine g_icmp_lt hC dX2_fail_64 82 rfl 67 rfl (fun c_135 => ?_) (fun c_135 => ?_)
    · refine g_aload_n hC dX2_fail_82 0 rfl gRef_r 83 rfl ?_
      refine g_phase hC 5 (by decide) rfl q2203 dX2_fail_83 86 rfl ?_
      refine g_callv (g_V (As := [.ref (gph G 5)]) (rest := []) hC mvX2_enter q2135 (gOf.of hC.K cI2 hc128) (met_Nd_enter l G M124 nd tn of ph cu sa wa rc an er F131 5 hc128) ⟨rfl, rfl⟩ ⟨(Nat.le_of_ble_eq_true rfl), (Nat.le_of_ble_eq_true rfl)⟩ rfl (Nat.le_of_ble_eq_true rfl) dX2_fail_86 rfl ⟨(Nat.le_of_ble_eq_true rfl), (Nat.le_of_ble_eq_true rfl)⟩) 0 (Nat.le_of_ble_eq_true rfl) 0 (Nat.le_of_ble_eq_true rfl) 89 rfl (fun M136 k137 hp138 => ?_)
      obtain ⟨hc140, hF141, hk142⟩ := hp138
      obtain ⟨F143, eF144⟩ : ∃ z9, z9 = upd F131 5 0 := ⟨_, rfl⟩
      rw [← eF144] at hc140
      refine g_aload_n hC dX2_fail_89 0 rfl gRef_r 90 rfl ?_
      refine g_aload_n hC dX2_fail_90 0 rfl gRef_r 91 rfl ?_
      refine g_calliP (g_V (As := []) (rest := [.ref nd]) hC mvX2_isPassive q2197 (gOf.of hC.K cI2 hc140) (met_Nd_isPassive l G M136 nd tn of 5 cu sa wa rc an er F143 tb bn bd bh bt pl ol rv hc140 (hF141 _ _ _ hH134 (gno (gne_c hH134 hc128 (by decide)) gno0))) ⟨rfl, rfl⟩ ⟨(Nat.le_of_ble_eq_true rfl), (Nat.le_of_ble_eq_true rfl)⟩ rfl (Nat.le_of_ble_eq_true rfl) dX2_fail_91 rfl ⟨(Nat.le_of_ble_eq_true rfl), (Nat.le_of_ble_eq_true rfl)⟩) 94 rfl 0 (Nat.le_of_ble_eq_true rfl) ?_
      refine g_if_ne hC dX2_fail_94 101 rfl 97 rfl (fun c_145 => ?_) (fun c_145 => ?_)
      · replace c_145 : cPas F143 pl = true := bB_n0 c_145
        refine g_iconst hC dX2_fail_101 ki_0 102 rfl ?_
        obtain ⟨F148, eF149⟩ : ∃ z9, z9 = upd F143 7 0 := ⟨_, rfl⟩
        refine g_put hC cI2 hc140 7 (Nat.le_of_ble_eq_true rfl) q384 rfl (by decide) rfl (Nat.le_of_ble_eq_true rfl) dX2_fail_102 (fs' := ndL G of 5 cu sa wa rc an er F148) (by rw [eF149]; exact ndL_s7) 105 rfl (fun M146 hU147 => ?_)
        exact g_vret hC (fun k9 hk9 => ⟨(by rw [hU147.1]; simp only [cFailG, cFailP, cFte, cF2, cF1, cFailE, eq_true c_9, eq_true c_135, eq_true c_145, eq_false (Int32.not_le.mpr c_135), if_true, if_false, true_and, and_true, false_and, and_false, true_or, or_true, false_or, or_false, not_true_eq_false, not_false_eq_true, reduceIte, decide_true, decide_false, Bool.false_eq_true, ← eF4, ← eF8, ← eF132, ← eF144, ← eF149]), (by rw [(hU147.n (gne_ao (hF141 _ _ _ hH133 (gno (gne_ao hH133 hc128) gno0)) hc140) (hF141 _ _ _ hH133 (gno (gne_ao hH133 hc128) gno0)))]; simp only [cFailG, cFailP, cFte, cF2, cF1, cFailE, eq_true c_9, eq_true c_135, eq_true c_145, eq_false (Int32.not_le.mpr c_135), if_true, if_false, true_and, and_true, false_and, and_false, true_or, or_true, false_or, or_false, not_true_eq_false, not_false_eq_true, reduceIte, decide_true, decide_false, Bool.false_eq_true, ← eF4, ← eF8, ← eF132, ← eF144, ← eF149]), (((((gFr.refl.up hU2 hM_2 (by simp)).up hU6 (hU2.n (gne_oa hM_0 hM_2) hM_0) (by simp)).trans (hF129.mono (by intro b t hb; simp at hb ⊢; first | done | (rcases hb with rfl | rfl | rfl | rfl <;> simp) | (simp [hb]; done)))).trans (hF141.mono (by intro b t hb; simp at hb ⊢; first | done | (rcases hb with rfl | rfl | rfl | rfl <;> simp) | (simp [hb]; done)))).up hU147 hc140 (by simp)), (by first | exact Nat.le_zero.mp hk9 | omega)⟩) dX2_fail_105 (Nat.le_of_ble_eq_true rfl) (Nat.le_of_ble_eq_true rfl)
      · replace c_145 : cPas F143 pl = false := bB_e0 c_145
        refine g_iconst hC dX2_fail_97 ki_1 98 rfl ?_
        refine g_goto hC dX2_fail_98 102 rfl ?_
        obtain ⟨F152, eF153⟩ : ∃ z9, z9 = upd F143 7 1 := ⟨_, rfl⟩
        refine g_put hC cI2 hc140 7 (Nat.le_of_ble_eq_true rfl) q384 rfl (by decide) rfl (Nat.le_of_ble_eq_true rfl) dX2_fail_102 (fs' := ndL G of 5 cu sa wa rc an er F152) (by rw [eF153]; exact ndL_s7) 105 rfl (fun M150 hU151 => ?_)
        exact g_vret hC (fun k9 hk9 => ⟨(by rw [hU151.1]; simp only [cFailG, cFailP, cFte, cF2, cF1, cFailE, eq_true c_9, eq_true c_135, eq_false (bF_nt c_145), eq_true c_145, eq_false (Int32.not_le.mpr c_135), if_true, if_false, true_and, and_true, false_and, and_false, true_or, or_true, false_or, or_false, not_true_eq_false, not_false_eq_true, reduceIte, decide_true, decide_false, Bool.false_eq_true, ← eF4, ← eF8, ← eF132, ← eF144, ← eF153]), (by rw [(hU151.n (gne_ao (hF141 _ _ _ hH133 (gno (gne_ao hH133 hc128) gno0)) hc140) (hF141 _ _ _ hH133 (gno (gne_ao hH133 hc128) gno0)))]; simp only [cFailG, cFailP, cFte, cF2, cF1, cFailE, eq_true c_9, eq_true c_135, eq_false (bF_nt c_145), eq_true c_145, eq_false (Int32.not_le.mpr c_135), if_true, if_false, true_and, and_true, false_and, and_false, true_or, or_true, false_or, or_false, not_true_eq_false, not_false_eq_true, reduceIte, decide_true, decide_false, Bool.false_eq_true, ← eF4, ← eF8, ← eF132, ← eF144, ← eF153]), (((((gFr.refl.up hU2 hM_2 (by simp)).up hU6 (hU2.n (gne_oa hM_0 hM_2) hM_0) (by simp)).trans (hF129.mono (by intro b t hb; simp at hb ⊢; first | done | (rcases hb with rfl | rfl | rfl | rfl <;> simp) | (simp [hb]; done)))).trans (hF141.mono (by intro b t hb; simp at hb ⊢; first | done | (rcases hb with rfl | rfl | rfl | rfl <;> simp) | (simp [hb]; done)))).up hU151 hc140 (by simp)), (by first | exact Nat.le_zero.mp hk9 | omega)⟩) dX2_fail_105 (Nat.le_of_ble_eq_true rfl) (Nat.le_of_ble_eq_true rfl)
    · refine g_aload_n hC dX2_fail_67 0 rfl gRef_r 68 rfl ?_
      refine g_phase hC 1 (by decide) rfl q2201 dX2_fail_68 71 rfl ?_
      refine g_callv (g_V (As := [.ref (gph G 1)]) (rest := []) hC mvX2_enter q2135 (gOf.of hC.K cI2 hc128) (met_Nd_enter l G M124 nd tn of ph cu sa wa rc an er F131 1 hc128) ⟨rfl, rfl⟩ ⟨(Nat.le_of_ble_eq_true rfl), (Nat.le_of_ble_eq_true rfl)⟩ rfl (Nat.le_of_ble_eq_true rfl) dX2_fail_71 rfl ⟨(Nat.le_of_ble_eq_true rfl), (Nat.le_of_ble_eq_true rfl)⟩) 0 (Nat.le_of_ble_eq_true rfl) 0 (Nat.le_of_ble_eq_true rfl) 74 rfl (fun M154 k155 hp156 => ?_)
      obtain ⟨hc158, hF159, hk160⟩ := hp156
      obtain ⟨F161, eF162⟩ : ∃ z9, z9 = upd F131 5 0 := ⟨_, rfl⟩
      rw [← eF162] at hc158
      refine g_aload_n hC dX2_fail_74 0 rfl gRef_r 75 rfl ?_
      refine g_iconst hC dX2_fail_75 ki_0 76 rfl ?_
      obtain ⟨F165, eF166⟩ : ∃ z9, z9 = upd F161 6 0 := ⟨_, rfl⟩
      refine g_put hC cI2 hc158 6 (Nat.le_of_ble_eq_true rfl) q382 rfl rfl rfl (Nat.le_of_ble_eq_true rfl) dX2_fail_76 (fs' := ndL G of 1 cu sa wa rc an er F165) (by rw [eF166]; exact ndL_s6) 79 rfl (fun M163 hU164 => ?_)
      refine g_goto hC dX2_fail_79 105 rfl ?_
      exact g_vret hC (fun k9 hk9 => ⟨(by rw [hU164.1]; simp only [cFailG, cFailP, cFte, cF2, cF1, cFailE, eq_true c_9, eq_false c_135, eq_true (Int32.not_lt.mp c_135), if_true, if_false, true_and, and_true, false_and, and_false, true_or, or_true, false_or, or_false, not_true_eq_false, not_false_eq_true, reduceIte, decide_true, decide_false, Bool.false_eq_true, ← eF4, ← eF8, ← eF132, ← eF162, ← eF166]), (by rw [(hU164.n (gne_ao (hF159 _ _ _ hH133 (gno (gne_ao hH133 hc128) gno0)) hc158) (hF159 _ _ _ hH133 (gno (gne_ao hH133 hc128) gno0)))]; simp only [cFailG, cFailP, cFte, cF2, cF1, cFailE, eq_true c_9, eq_false c_135, eq_true (Int32.not_lt.mp c_135), if_true, if_false, true_and, and_true, false_and, and_false, true_or, or_true, false_or, or_false, not_true_eq_false, not_false_eq_true, reduceIte, decide_true, decide_false, Bool.false_eq_true, ← eF4, ← eF8, ← eF132, ← eF162, ← eF166]), (((((gFr.refl.up hU2 hM_2 (by simp)).up hU6 (hU2.n (gne_oa hM_0 hM_2) hM_0) (by simp)).trans (hF129.mono (by intro b t hb; simp at hb ⊢; first | done | (rcases hb with rfl | rfl | rfl | rfl <;> simp) | (simp [hb]; done)))).trans (hF159.mono (by intro b t hb; simp at hb ⊢; first | done | (rcases hb with rfl | rfl | rfl | rfl <;> simp) | (simp [hb]; done)))).up hU164 hc158 (by simp)), (by first | exact Nat.le_zero.mp hk9 | omega)⟩) dX2_fail_105 (Nat.le_of_ble_eq_true rfl) (Nat.le_of_ble_eq_true rfl)
def cFlagP (g : Nat → Int32) (ph : Nat) : Nat := if g 5 + 1 = 6 then 7 else ph
def cFlagG (g : Nat → Int32) (b : Bool) : Nat → Int32 := if g 5 + 1 = 6 then upd (upd (cCnt g) 5 0) 8 (bI b) else cCnt g
set_option maxHeartbeats 4000000 in
theorem met_Nd_flagBit (l : Launch) (G : gG) (M : gM) (nd : Nat) (tn : Nat × Nat) (of : Nat) (ph : Nat) (cu : Option Nat) (sa : Nat) (wa : Nat) (rc : Nat) (an : Nat) (er : Nat) (g1 : Nat → Int32) (b : Bool)  (hM_0 : M nd = some (tn, .inr (2, ndL G of ph cu sa wa rc an er g1))) : Met l yX2_flagBit (ws_ yX2_flagBit cX2_flagBit 2 none) ({ frames := 1, cells := 0, slots := 0, locals := 21 }) (gPc G [.ref nd, .int (bI b)] M) (gQv G (fun M9 k9 => M9 nd = some (tn, .inr (2, ndL G of (cFlagP g1 ph) cu sa wa rc an er (cFlagG g1 b))) ∧ gFr (gL [nd]) M M9 ∧ k9 = 0)) 0 0 (gA G) := by
  refine gMet [(0, .ref nd), (1, .int (bI b))] (by decide) (Nat.le_of_ble_eq_true rfl) rfl ?_
  intro p e s m below meth c hC
  refine g_aload_n hC dX2_flagBit_0 0 rfl gRef_r 1 rfl ?_
  refine g_bipush hC dX2_flagBit_1 kb_6 3 rfl ?_
  refine g_calli (g_V (As := [.int 6]) (rest := []) hC mvX2_counts q2258 (gOf.of hC.K cI2 hM_0) (met_Nd_counts l G M nd tn of ph cu sa wa rc an er g1 6 hM_0) ⟨rfl, rfl⟩ ⟨(Nat.le_of_ble_eq_true rfl), (Nat.le_of_ble_eq_true rfl)⟩ rfl (Nat.le_of_ble_eq_true rfl) dX2_flagBit_3 rfl ⟨(Nat.le_of_ble_eq_true rfl), (Nat.le_of_ble_eq_true rfl)⟩) 0 (Nat.le_of_ble_eq_true rfl) 0 (Nat.le_of_ble_eq_true rfl) 6 rfl (fun r4 M1 k2 hp3 => ?_)
  obtain ⟨rfl, hc5, hF6, hk7⟩ := hp3
  obtain ⟨F8, eF9⟩ : ∃ z9, z9 = cCnt g1 := ⟨_, rfl⟩
  rw [← eF9] at hc5
  refine g_if_eq hC dX2_flagBit_6 21 rfl 9 rfl (fun c_10 => ?_) (fun c_10 => ?_)
  · replace c_10 := bId_0 c_10
    exact g_vret hC (fun k9 hk9 => ⟨(by rw [hc5]; all_goals (first | rfl | (simp only [cFlagP, cFlagG, ← eF9, eq_false c_10, if_true, if_false, true_and, and_true, false_and, and_false, true_or, or_true, false_or, or_false, not_true_eq_false, not_false_eq_true, reduceIte, decide_true, decide_false, Bool.false_eq_true]; done) | (simp only [cFlagP, cFlagG, ← eF9, eq_false c_10, if_true, if_false, true_and, and_true, false_and, and_false, true_or, or_true, false_or, or_false, not_true_eq_false, not_false_eq_true, reduceIte, decide_true, decide_false, Bool.false_eq_true]; rfl) | (simp only [cFlagP, cFlagG, ← eF9, c_10, if_true, if_false, true_and, and_true, false_and, and_false, true_or, or_true, false_or, or_false, not_true_eq_false, not_false_eq_true, reduceIte, decide_true, decide_false, Bool.false_eq_true]; done) | (simp only [cFlagP, cFlagG, ← eF9]; simp only [if_true, if_false, true_and, and_true, false_and, and_false, true_or, or_true, false_or, or_false, not_true_eq_false, not_false_eq_true, reduceIte, decide_true, decide_false, Bool.false_eq_true, eq_false c_10]; done) | (simp only [cFlagP, cFlagG, ← eF9]; simp only [if_true, if_false, true_and, and_true, false_and, and_false, true_or, or_true, false_or, or_false, not_true_eq_false, not_false_eq_true, reduceIte, decide_true, decide_false, Bool.false_eq_true, c_10]; done) | (simp only [cFlagP, cFlagG, ← eF9]; simp only [if_true, if_false, true_and, and_true, false_and, and_false, true_or, or_true, false_or, or_false, not_true_eq_false, not_false_eq_true, reduceIte, decide_true, decide_false, Bool.false_eq_true, c_10]; simp only [cFlagP, cFlagG, ← eF9]; done) | (simp only [cFlagP, cFlagG, ← eF9, c_10, if_true, if_false, true_and, and_true, false_and, and_false, true_or, or_true, false_or, or_false, not_true_eq_false, not_false_eq_true, reduceIte, decide_true, decide_false, Bool.false_eq_true]; rfl) | (simp only [cFlagP, cFlagG, ← eF9]; simp only [if_true, if_false, true_and, and_true, false_and, and_false, true_or, or_true, false_or, or_false, not_true_eq_false, not_false_eq_true, reduceIte, decide_true, decide_false, Bool.false_eq_true, c_10]; rfl) | (simp only [cFlagP, cFlagG, ← eF9]; rfl) | (simp only [cFlagP, cFlagG, c_10, if_true, if_false, true_and, and_true, false_and, and_false, true_or, or_true, false_or, or_false, not_true_eq_false, not_false_eq_true, reduceIte, decide_true, decide_false, Bool.false_eq_true]; simp only [← eF9]; done) | (simp only [cFlagP, cFlagG, c_10, if_true, if_false, true_and, and_true, false_and, and_false, true_or, or_true, false_or, or_false, not_true_eq_false, not_false_eq_true, reduceIte, decide_true, decide_false, Bool.false_eq_true]; simp only [← eF9]; rfl) | (simp only [cFlagP, cFlagG, ← eF9]; simp only [if_true, if_false, true_and, and_true, false_and, and_false, true_or, or_true, false_or, or_false, not_true_eq_false, not_false_eq_true, reduceIte, decide_true, decide_false, Bool.false_eq_true, c_10]; simp only [cFlagP, cFlagG, ← eF9, c_10, if_true, if_false, true_and, and_true, false_and, and_false, true_or, or_true, false_or, or_false, not_true_eq_false, not_false_eq_true, reduceIte, decide_true, decide_false, Bool.false_eq_true]; done) | (subst eF9; simp_all [cFlagP, cFlagG]; done))), (gFr.refl.trans (hF6.mono (by intro b t hb; simp at hb ⊢; first | done | (rcases hb with rfl | rfl | rfl | rfl <;> simp) | (simp [hb]; done)))), (by first | exact Nat.le_zero.mp hk9 | omega)⟩) dX2_flagBit_21 (Nat.le_of_ble_eq_true rfl) (Nat.le_of_ble_eq_true rfl)
  · replace c_10 := bId_1 c_10
    refine g_aload_n hC dX2_flagBit_9 0 rfl gRef_r 10 rfl ?_
    refine g_phase hC 7 (by decide) rfl q2259 dX2_flagBit_10 13 rfl ?_
    refine g_callv (g_V (As := [.ref (gph G 7)]) (rest := []) hC mvX2_enter q2135 (gOf.of hC.K cI2 hc5) (met_Nd_enter l G M1 nd tn of ph cu sa wa rc an er F8 7 hc5) ⟨rfl, rfl⟩ ⟨(Nat.le_of_ble_eq_true rfl), (Nat.le_of_ble_eq_true rfl)⟩ rfl (Nat.le_of_ble_eq_true rfl) dX2_flagBit_13 rfl ⟨(Nat.le_of_ble_eq_true rfl), (Nat.le_of_ble_eq_true rfl)⟩) 0 (Nat.le_of_ble_eq_true rfl) 0 (Nat.le_of_ble_eq_true rfl) 16 rfl (fun M11 k12 hp13 => ?_)
    obtain ⟨hc15, hF16, hk17⟩ := hp13
    obtain ⟨F18, eF19⟩ : ∃ z9, z9 = upd F8 5 0 := ⟨_, rfl⟩
    rw [← eF19] at hc15
    refine g_aload_n hC dX2_flagBit_16 0 rfl gRef_r 17 rfl ?_
    refine g_iload_n hC dX2_flagBit_17 1 rfl 18 rfl ?_
    obtain ⟨F22, eF23⟩ : ∃ z9, z9 = upd F18 8 (bI b) := ⟨_, rfl⟩
    refine g_put hC cI2 hc15 8 (Nat.le_of_ble_eq_true rfl) q385 rfl (bI_n b) (bI_fit b) (Nat.le_of_ble_eq_true rfl) dX2_flagBit_18 (fs' := ndL G of 7 cu sa wa rc an er F22) (by rw [eF23]; exact ndL_s8) 21 rfl (fun M20 hU21 => ?_)
    exact g_vret hC (fun k9 hk9 => ⟨(by rw [hU21.1]; all_goals (first | rfl | (simp only [cFlagP, cFlagG, ← eF9, ← eF19, ← eF23, eq_true c_10, if_true, if_false, true_and, and_true, false_and, and_false, true_or, or_true, false_or, or_false, not_true_eq_false, not_false_eq_true, reduceIte, decide_true, decide_false, Bool.false_eq_true]; done) | (simp only [cFlagP, cFlagG, ← eF9, ← eF19, ← eF23, eq_true c_10, if_true, if_false, true_and, and_true, false_and, and_false, true_or, or_true, false_or, or_false, not_true_eq_false, not_false_eq_true, reduceIte, decide_true, decide_false, Bool.false_eq_true]; rfl) | (simp only [cFlagP, cFlagG, ← eF9, ← eF19, ← eF23, c_10, if_true, if_false, true_and, and_true, false_and, and_false, true_or, or_true, false_or, or_false, not_true_eq_false, not_false_eq_true, reduceIte, decide_true, decide_false, Bool.false_eq_true]; done) | (simp only [cFlagP, cFlagG, ← eF9, ← eF19, ← eF23]; simp only [if_true, if_false, true_and, and_true, false_and, and_false, true_or, or_true, false_or, or_false, not_true_eq_false, not_false_eq_true, reduceIte, decide_true, decide_false, Bool.false_eq_true, eq_true c_10]; done) | (simp only [cFlagP, cFlagG, ← eF9, ← eF19, ← eF23]; simp only [if_true, if_false, true_and, and_true, false_and, and_false, true_or, or_true, false_or, or_false, not_true_eq_false, not_false_eq_true, reduceIte, decide_true, decide_false, Bool.false_eq_true, c_10]; done) | (simp only [cFlagP, cFlagG, ← eF9, ← eF19, ← eF23]; simp only [if_true, if_false, true_and, and_true, false_and, and_false, true_or, or_true, false_or, or_false, not_true_eq_false, not_false_eq_true, reduceIte, decide_true, decide_false, Bool.false_eq_true, c_10]; simp only [cFlagP, cFlagG, ← eF9, ← eF19, ← eF23]; done) | (simp only [cFlagP, cFlagG, ← eF9, ← eF19, ← eF23, c_10, if_true, if_false, true_and, and_true, false_and, and_false, true_or, or_true, false_or, or_false, not_true_eq_false, not_false_eq_true, reduceIte, decide_true, decide_false, Bool.false_eq_true]; rfl) | (simp only [cFlagP, cFlagG, ← eF9, ← eF19, ← eF23]; simp only [if_true, if_false, true_and, and_true, false_and, and_false, true_or, or_true, false_or, or_false, not_true_eq_false, not_false_eq_true, reduceIte, decide_true, decide_false, Bool.false_eq_true, c_10]; rfl) | (simp only [cFlagP, cFlagG, ← eF9, ← eF19, ← eF23]; rfl) | (simp only [cFlagP, cFlagG, c_10, if_true, if_false, true_and, and_true, false_and, and_false, true_or, or_true, false_or, or_false, not_true_eq_false, not_false_eq_true, reduceIte, decide_true, decide_false, Bool.false_eq_true]; simp only [← eF9, ← eF19, ← eF23]; done) | (simp only [cFlagP, cFlagG, c_10, if_true, if_false, true_and, and_true, false_and, and_false, true_or, or_true, false_or, or_false, not_true_eq_false, not_false_eq_true, reduceIte, decide_true, decide_false, Bool.false_eq_true]; simp only [← eF9, ← eF19, ← eF23]; rfl) | (simp only [cFlagP, cFlagG, ← eF9, ← eF19, ← eF23]; simp only [if_true, if_false, true_and, and_true, false_and, and_false, true_or, or_true, false_or, or_false, not_true_eq_false, not_false_eq_true, reduceIte, decide_true, decide_false, Bool.false_eq_true, c_10]; simp only [cFlagP, cFlagG, ← eF9, ← eF19, ← eF23, c_10, if_true, if_false, true_and, and_true, false_and, and_false, true_or, or_true, false_or, or_false, not_true_eq_false, not_false_eq_true, reduceIte, decide_true, decide_false, Bool.false_eq_true]; done) | (subst eF23 eF19 eF9; simp_all [cFlagP, cFlagG]; done))), (((gFr.refl.trans (hF6.mono (by intro b t hb; simp at hb ⊢; first | done | (rcases hb with rfl | rfl | rfl | rfl <;> simp) | (simp [hb]; done)))).trans (hF16.mono (by intro b t hb; simp at hb ⊢; first | done | (rcases hb with rfl | rfl | rfl | rfl <;> simp) | (simp [hb]; done)))).up hU21 hc15 (by simp)), (by first | exact Nat.le_zero.mp hk9 | omega)⟩) dX2_flagBit_21 (Nat.le_of_ble_eq_true rfl) (Nat.le_of_ble_eq_true rfl)
def cDelP (g : Nat → Int32) (ph : Nat) (sm pl ol : Int32) : Nat := if sm = 1 then (if g 5 + 1 = 8 then 8 else ph) else if g 5 = 7 then 6 else if g 5 ≤ 0 then ph else cFailP (upd g 8 0) 4 pl ol
def cDelG (g : Nat → Int32) (sm pl ol : Int32) : Nat → Int32 := if sm = 1 then (if g 5 + 1 = 8 then upd (cCnt (upd g 8 0)) 5 0 else cCnt (upd g 8 0)) else if g 5 = 7 then cOver (upd g 8 0) else if g 5 ≤ 0 then (if g 8 = 0 then upd g 8 0 else if g 2 = 0 then cRaise (upd g 8 0) 8 else upd g 8 0) else cFailG (upd g 8 0) 4 pl ol
def cDelE (g e : Nat → Int32) (sm : Int32) : Nat → Int32 := if sm = 1 then e else if g 5 = 7 then e else if g 5 ≤ 0 then e else cFailE e 4
set_option maxHeartbeats 4000000 in
theorem met_Nd_delimiter (l : Launch) (G : gG) (M : gM) (nd : Nat) (tn : Nat × Nat) (of : Nat) (ph : Nat) (cu : Option Nat) (sa : Nat) (wa : Nat) (rc : Nat) (an : Nat) (er : Nat) (g1 : Nat → Int32) (tb : Nat × Nat) (bn : Nat) (bd : Nat) (bh : Nat) (bt : Int32) (pl : Int32) (ol : Int32) (rv : Int32) (te : Nat × Nat) (e1 : Nat → Int32) (sm : Int32)  (hM_0 : M nd = some (tn, .inr (2, ndL G of ph cu sa wa rc an er g1))) (hM_1 : M of = some (tb, .inr (1, [.ref bn, .ref bd, .ref bh, .int bt, .int pl, .int ol, .int rv]))) (hM_2 : M er = some (te, .inl (gcs G 0, 6, .inl e1))) : Met l yX2_delimiter (ws_ yX2_delimiter cX2_delimiter 3 none) ({ frames := 3, cells := 0, slots := 0, locals := 56 }) (gPc G [.ref nd, .int sm] M) (gQv G (fun M9 k9 => M9 nd = some (tn, .inr (2, ndL G of (cDelP g1 ph sm pl ol) cu sa wa rc an er (cDelG g1 sm pl ol))) ∧ M9 er = some (te, .inl (gcs G 0, 6, .inl (cDelE g1 e1 sm))) ∧ gFr (gL [nd, er]) M M9 ∧ k9 = 0)) 0 0 (gA G) := by
  refine gMet [(0, .ref nd), (1, .int sm)] (by decide) (Nat.le_of_ble_eq_true rfl) rfl ?_
  intro p e s m below meth c hC
  refine g_aload_n hC dX2_delimiter_0 0 rfl gRef_r 1 rfl ?_
  refine g_get (v := .int (g1 8)) hC cI2 hM_0 8 (Nat.le_of_ble_eq_true rfl) q385 rfl dX2_delimiter_1 4 rfl ?_
  refine g_istore_n hC dX2_delimiter_4 rfl (Nat.le_of_ble_eq_true rfl) [(2, .int (g1 8)), (0, .ref nd), (1, .int sm)] rfl 5 rfl ?_
  refine g_aload_n hC dX2_delimiter_5 1 rfl gRef_r 6 rfl ?_
  refine g_iconst hC dX2_delimiter_6 ki_0 7 rfl ?_
  obtain ⟨F3, eF4⟩ : ∃ z9, z9 = upd g1 8 0 := ⟨_, rfl⟩
  refine g_put hC cI2 hM_0 8 (Nat.le_of_ble_eq_true rfl) q385 rfl (by decide) rfl (Nat.le_of_ble_eq_true rfl) dX2_delimiter_7 (fs' := ndL G of ph cu sa wa rc an er F3) (by rw [eF4]; exact ndL_s8) 10 rfl (fun M1 hU2 => ?_)
  refine g_iload_n hC dX2_delimiter_10 2 rfl 11 rfl ?_
  refine g_iconst hC dX2_delimiter_11 ki_1 12 rfl ?_
  refine g_icmp_ne hC dX2_delimiter_12 34 rfl 15 rfl (fun c_5 => ?_) (fun c_5 => ?_)
  · refine g_aload_n hC dX2_delimiter_34 1 rfl gRef_r 35 rfl ?_
    refine g_get (v := .int (F3 5)) hC cI2 hU2.1 5 (Nat.le_of_ble_eq_true rfl) q380 rfl dX2_delimiter_35 38 rfl ?_
    refine g_topi (y := g1 5) (by rw [eF4, pk_un (by omega)]) ?_
    refine g_bipush hC dX2_delimiter_38 kb_7 40 rfl ?_
    refine g_icmp_ne hC dX2_delimiter_40 50 rfl 43 rfl (fun c_6 => ?_) (fun c_6 => ?_)
    · refine g_aload_n hC dX2_delimiter_50 1 rfl gRef_r 51 rfl ?_
      refine g_get (v := .int (F3 5)) hC cI2 hU2.1 5 (Nat.le_of_ble_eq_true rfl) q380 rfl dX2_delimiter_51 54 rfl ?_
      refine g_topi (y := g1 5) (by rw [eF4, pk_un (by omega)]) ?_
      refine g_if_le hC dX2_delimiter_54 65 rfl 57 rfl (fun c_7 => ?_) (fun c_7 => ?_)
      · refine g_iload_n hC dX2_delimiter_65 0 rfl 66 rfl ?_
        refine g_if_eq hC dX2_delimiter_66 82 rfl 69 rfl (fun c_8 => ?_) (fun c_8 => ?_)
        · exact g_vret hC (fun k9 hk9 => ⟨(by rw [hU2.1]; simp only [cDelP, cDelG, cDelE, eq_false c_5, eq_false c_6, eq_true c_7, eq_true c_8, eq_false (Int32.not_lt.mpr c_7), if_true, if_false, true_and, and_true, false_and, and_false, true_or, or_true, false_or, or_false, not_true_eq_false, not_false_eq_true, reduceIte, decide_true, decide_false, Bool.false_eq_true, ← eF4]), (by rw [(hU2.n (gne_ao hM_2 hM_0) hM_2)]; simp only [cDelP, cDelG, cDelE, eq_false c_5, eq_false c_6, eq_true c_7, eq_true c_8, eq_false (Int32.not_lt.mpr c_7), if_true, if_false, true_and, and_true, false_and, and_false, true_or, or_true, false_or, or_false, not_true_eq_false, not_false_eq_true, reduceIte, decide_true, decide_false, Bool.false_eq_true, ← eF4]), (gFr.refl.up hU2 hM_0 (by simp)), (by first | exact Nat.le_zero.mp hk9 | omega)⟩) dX2_delimiter_82 (Nat.le_of_ble_eq_true rfl) (Nat.le_of_ble_eq_true rfl)
        · refine g_aload_n hC dX2_delimiter_69 1 rfl gRef_r 70 rfl ?_
          refine g_get (v := .int (F3 2)) hC cI2 hU2.1 2 (Nat.le_of_ble_eq_true rfl) q372 rfl dX2_delimiter_70 73 rfl ?_
          refine g_topi (y := g1 2) (by rw [eF4, pk_un (by omega)]) ?_
          refine g_if_ne hC dX2_delimiter_73 82 rfl 76 rfl (fun c_9 => ?_) (fun c_9 => ?_)
          · exact g_vret hC (fun k9 hk9 => ⟨(by rw [hU2.1]; simp only [cDelP, cDelG, cDelE, eq_false c_5, eq_false c_6, eq_true c_7, eq_false c_8, eq_false c_9, eq_false (Int32.not_lt.mpr c_7), if_true, if_false, true_and, and_true, false_and, and_false, true_or, or_true, false_or, or_false, not_true_eq_false, not_false_eq_true, reduceIte, decide_true, decide_false, Bool.false_eq_true, ← eF4]), (by rw [(hU2.n (gne_ao hM_2 hM_0) hM_2)]; simp only [cDelP, cDelG, cDelE, eq_false c_5, eq_false c_6, eq_true c_7, eq_false c_8, eq_false c_9, eq_false (Int32.not_lt.mpr c_7), if_true, if_false, true_and, and_true, false_and, and_false, true_or, or_true, false_or, or_false, not_true_eq_false, not_false_eq_true, reduceIte, decide_true, decide_false, Bool.false_eq_true, ← eF4]), (gFr.refl.up hU2 hM_0 (by simp)), (by first | exact Nat.le_zero.mp hk9 | omega)⟩) dX2_delimiter_82 (Nat.le_of_ble_eq_true rfl) (Nat.le_of_ble_eq_true rfl)
          · refine g_aload_n hC dX2_delimiter_76 1 rfl gRef_r 77 rfl ?_
            refine g_bipush hC dX2_delimiter_77 kb_8 79 rfl ?_
            refine g_callv (g_V (As := [.int 8]) (rest := []) hC mvX2_raiseReceiveErrors q2192 (gOf.of hC.K cI2 hU2.1) (met_Nd_raise l G M1 nd tn of ph cu sa wa rc an er F3 8 hU2.1) ⟨rfl, rfl⟩ ⟨(Nat.le_of_ble_eq_true rfl), (Nat.le_of_ble_eq_true rfl)⟩ rfl (Nat.le_of_ble_eq_true rfl) dX2_delimiter_79 rfl ⟨(Nat.le_of_ble_eq_true rfl), (Nat.le_of_ble_eq_true rfl)⟩) 0 (Nat.le_of_ble_eq_true rfl) 0 (Nat.le_of_ble_eq_true rfl) 82 rfl (fun M10 k11 hp12 => ?_)
            obtain ⟨hc14, hF15, hk16⟩ := hp12
            obtain ⟨F17, eF18⟩ : ∃ z9, z9 = cRaise F3 8 := ⟨_, rfl⟩
            rw [← eF18] at hc14
            exact g_vret hC (fun k9 hk9 => ⟨(by rw [hc14]; simp only [cDelP, cDelG, cDelE, eq_false c_5, eq_false c_6, eq_true c_7, eq_false c_8, eq_true c_9, eq_false (Int32.not_lt.mpr c_7), if_true, if_false, true_and, and_true, false_and, and_false, true_or, or_true, false_or, or_false, not_true_eq_false, not_false_eq_true, reduceIte, decide_true, decide_false, Bool.false_eq_true, ← eF4, ← eF18]), (by rw [(hF15 _ _ _ (hU2.n (gne_ao hM_2 hM_0) hM_2) (gno (gne_ao (hU2.n (gne_ao hM_2 hM_0) hM_2) hU2.1) gno0))]; simp only [cDelP, cDelG, cDelE, eq_false c_5, eq_false c_6, eq_true c_7, eq_false c_8, eq_true c_9, eq_false (Int32.not_lt.mpr c_7), if_true, if_false, true_and, and_true, false_and, and_false, true_or, or_true, false_or, or_false, not_true_eq_false, not_false_eq_true, reduceIte, decide_true, decide_false, Bool.false_eq_true, ← eF4, ← eF18]), ((gFr.refl.up hU2 hM_0 (by simp)).trans (hF15.mono (by intro b t hb; simp at hb ⊢; first | done | (rcases hb with rfl | rfl | rfl | rfl <;> simp) | (simp [hb]; done)))), (by first | exact Nat.le_zero.mp hk9 | omega)⟩) dX2_delimiter_82 (Nat.le_of_ble_eq_true rfl) (Nat.le_of_ble_eq_true rfl)
      · refine g_aload_n hC dX2_delimiter_57 1 rfl gRef_r 58 rfl ?_
        refine g_iconst hC dX2_delimiter_58 ki_4 59 rfl ?_
        refine g_callv (g_V (As := [.int 4]) (rest := []) hC mvX2_fail q2213 (gOf.of hC.K cI2 hU2.1) (met_Nd_fail l G M1 nd tn of ph cu sa wa rc an er F3 tb bn bd bh bt pl ol rv te e1 4 (by first | assumption | decide | omega | (dsimp only; omega) | simp_all) hU2.1 (hU2.n (gne_c hM_1 hM_0 (by decide)) hM_1) (hU2.n (gne_ao hM_2 hM_0) hM_2)) ⟨rfl, rfl⟩ ⟨(Nat.le_of_ble_eq_true rfl), (Nat.le_of_ble_eq_true rfl)⟩ rfl (Nat.le_of_ble_eq_true rfl) dX2_delimiter_59 rfl ⟨(Nat.le_of_ble_eq_true rfl), (Nat.le_of_ble_eq_true rfl)⟩) 0 (Nat.le_of_ble_eq_true rfl) 0 (Nat.le_of_ble_eq_true rfl) 62 rfl (fun M19 k20 hp21 => ?_)
        obtain ⟨hc23, hc24, hF25, hk26⟩ := hp21
        obtain ⟨F27, eF28⟩ : ∃ z9, z9 = cFailG F3 4 pl ol := ⟨_, rfl⟩
        rw [← eF28] at hc23
        obtain ⟨F29, eF30⟩ : ∃ z9, z9 = cFailE e1 4 := ⟨_, rfl⟩
        rw [← eF30] at hc24
        refine g_goto hC dX2_delimiter_62 82 rfl ?_
        exact g_vret hC (fun k9 hk9 => ⟨(by rw [hc23]; simp only [cDelP, cDelG, cDelE, eq_false c_5, eq_false c_6, eq_false c_7, eq_true (Int32.not_le.mp c_7), if_true, if_false, true_and, and_true, false_and, and_false, true_or, or_true, false_or, or_false, not_true_eq_false, not_false_eq_true, reduceIte, decide_true, decide_false, Bool.false_eq_true, ← eF4, ← eF28, ← eF30]), (by rw [hc24]; simp only [cDelP, cDelG, cDelE, eq_false c_5, eq_false c_6, eq_false c_7, eq_true (Int32.not_le.mp c_7), if_true, if_false, true_and, and_true, false_and, and_false, true_or, or_true, false_or, or_false, not_true_eq_false, not_false_eq_true, reduceIte, decide_true, decide_false, Bool.false_eq_true, ← eF4, ← eF28, ← eF30]), ((gFr.refl.up hU2 hM_0 (by simp)).trans (hF25.mono (by intro b t hb; simp at hb ⊢; first | done | (rcases hb with rfl | rfl | rfl | rfl <;> simp) | (simp [hb]; done)))), (by first | exact Nat.le_zero.mp hk9 | omega)⟩) dX2_delimiter_82 (Nat.le_of_ble_eq_true rfl) (Nat.le_of_ble_eq_true rfl)
    · refine g_aload_n hC dX2_delimiter_43 1 rfl gRef_r 44 rfl ?_
      refine g_callv (g_V (As := []) (rest := []) hC mvX2_overload q2218 (gOf.of hC.K cI2 hU2.1) (met_Nd_overload l G M1 nd tn of ph cu sa wa rc an er F3 hU2.1) ⟨rfl, rfl⟩ ⟨(Nat.le_of_ble_eq_true rfl), (Nat.le_of_ble_eq_true rfl)⟩ rfl (Nat.le_of_ble_eq_true rfl) dX2_delimiter_44 rfl ⟨(Nat.le_of_ble_eq_true rfl), (Nat.le_of_ble_eq_true rfl)⟩) 0 (Nat.le_of_ble_eq_true rfl) 0 (Nat.le_of_ble_eq_true rfl) 47 rfl (fun M31 k32 hp33 => ?_)
      obtain ⟨hc35, hF36, hk37⟩ := hp33
      obtain ⟨F38, eF39⟩ : ∃ z9, z9 = cOver F3 := ⟨_, rfl⟩
      rw [← eF39] at hc35
      refine g_goto hC dX2_delimiter_47 82 rfl ?_
      exact g_vret hC (fun k9 hk9 => ⟨(by rw [hc35]; simp only [cDelP, cDelG, cDelE, eq_false c_5, eq_true c_6, if_true, if_false, true_and, and_true, false_and, and_false, true_or, or_true, false_or, or_false, not_true_eq_false, not_false_eq_true, reduceIte, decide_true, decide_false, Bool.false_eq_true, ← eF4, ← eF39]), (by rw [(hF36 _ _ _ (hU2.n (gne_ao hM_2 hM_0) hM_2) (gno (gne_ao (hU2.n (gne_ao hM_2 hM_0) hM_2) hU2.1) gno0))]; simp only [cDelP, cDelG, cDelE, eq_false c_5, eq_true c_6, if_true, if_false, true_and, and_true, false_and, and_false, true_or, or_true, false_or, or_false, not_true_eq_false, not_false_eq_true, reduceIte, decide_true, decide_false, Bool.false_eq_true, ← eF4, ← eF39]), ((gFr.refl.up hU2 hM_0 (by simp)).trans (hF36.mono (by intro b t hb; simp at hb ⊢; first | done | (rcases hb with rfl | rfl | rfl | rfl <;> simp) | (simp [hb]; done)))), (by first | exact Nat.le_zero.mp hk9 | omega)⟩) dX2_delimiter_82 (Nat.le_of_ble_eq_true rfl) (Nat.le_of_ble_eq_true rfl)
  · refine g_aload_n hC dX2_delimiter_15 1 rfl gRef_r 16 rfl ?_
    refine g_bipush hC dX2_delimiter_16 kb_8 18 rfl ?_
    refine g_calli (g_V (As := [.int 8]) (rest := []) hC mvX2_counts q2258 (gOf.of hC.K cI2 hU2.1) (met_Nd_counts l G M1 nd tn of ph cu sa wa rc an er F3 8 hU2.1) ⟨rfl, rfl⟩ ⟨(Nat.le_of_ble_eq_true rfl), (Nat.le_of_ble_eq_true rfl)⟩ rfl (Nat.le_of_ble_eq_true rfl) dX2_delimiter_18 rfl ⟨(Nat.le_of_ble_eq_true rfl), (Nat.le_of_ble_eq_true rfl)⟩) 0 (Nat.le_of_ble_eq_true rfl) 0 (Nat.le_of_ble_eq_true rfl) 21 rfl (fun r43 M40 k41 hp42 => ?_)
    obtain ⟨rfl, hc44, hF45, hk46⟩ := hp42
    obtain ⟨F47, eF48⟩ : ∃ z9, z9 = cCnt F3 := ⟨_, rfl⟩
    rw [← eF48] at hc44
    refine g_topi (y := bI (decide (g1 5 + 1 = 8))) (by simp only [(show F3 5 = g1 5 from (by rw [eF4, pk_un (by omega)]))]) ?_
    refine g_if_eq hC dX2_delimiter_21 82 rfl 24 rfl (fun c_49 => ?_) (fun c_49 => ?_)
    · replace c_49 := bId_0 c_49
      exact g_vret hC (fun k9 hk9 => ⟨(by rw [hc44]; simp only [cDelP, cDelG, cDelE, eq_true c_5, eq_false c_49, if_true, if_false, true_and, and_true, false_and, and_false, true_or, or_true, false_or, or_false, not_true_eq_false, not_false_eq_true, reduceIte, decide_true, decide_false, Bool.false_eq_true, ← eF4, ← eF48]), (by rw [(hF45 _ _ _ (hU2.n (gne_ao hM_2 hM_0) hM_2) (gno (gne_ao (hU2.n (gne_ao hM_2 hM_0) hM_2) hU2.1) gno0))]; simp only [cDelP, cDelG, cDelE, eq_true c_5, eq_false c_49, if_true, if_false, true_and, and_true, false_and, and_false, true_or, or_true, false_or, or_false, not_true_eq_false, not_false_eq_true, reduceIte, decide_true, decide_false, Bool.false_eq_true, ← eF4, ← eF48]), ((gFr.refl.up hU2 hM_0 (by simp)).trans (hF45.mono (by intro b t hb; simp at hb ⊢; first | done | (rcases hb with rfl | rfl | rfl | rfl <;> simp) | (simp [hb]; done)))), (by first | exact Nat.le_zero.mp hk9 | omega)⟩) dX2_delimiter_82 (Nat.le_of_ble_eq_true rfl) (Nat.le_of_ble_eq_true rfl)
    · replace c_49 := bId_1 c_49
      refine g_aload_n hC dX2_delimiter_24 1 rfl gRef_r 25 rfl ?_
      refine g_phase hC 8 (by decide) rfl q2233 dX2_delimiter_25 28 rfl ?_
      refine g_callv (g_V (As := [.ref (gph G 8)]) (rest := []) hC mvX2_enter q2135 (gOf.of hC.K cI2 hc44) (met_Nd_enter l G M40 nd tn of ph cu sa wa rc an er F47 8 hc44) ⟨rfl, rfl⟩ ⟨(Nat.le_of_ble_eq_true rfl), (Nat.le_of_ble_eq_true rfl)⟩ rfl (Nat.le_of_ble_eq_true rfl) dX2_delimiter_28 rfl ⟨(Nat.le_of_ble_eq_true rfl), (Nat.le_of_ble_eq_true rfl)⟩) 0 (Nat.le_of_ble_eq_true rfl) 0 (Nat.le_of_ble_eq_true rfl) 31 rfl (fun M50 k51 hp52 => ?_)
      obtain ⟨hc54, hF55, hk56⟩ := hp52
      obtain ⟨F57, eF58⟩ : ∃ z9, z9 = upd F47 5 0 := ⟨_, rfl⟩
      rw [← eF58] at hc54
      have hH59 := (hF55 _ _ _ (hF45 _ _ _ (hU2.n (gne_c hM_1 hM_0 (by decide)) hM_1) (gno (gne_c (hU2.n (gne_c hM_1 hM_0 (by decide)) hM_1) hU2.1 (by decide)) gno0)) (gno (gne_c (hF45 _ _ _ (hU2.n (gne_c hM_1 hM_0 (by decide)) hM_1) (gno (gne_c (hU2.n (gne_c hM_1 hM_0 (by decide)) hM_1) hU2.1 (by decide)) gno0)) hc44 (by decide)) gno0))
      have hH60 := (hF55 _ _ _ (hF45 _ _ _ (hU2.n (gne_ao hM_2 hM_0) hM_2) (gno (gne_ao (hU2.n (gne_ao hM_2 hM_0) hM_2) hU2.1) gno0)) (gno (gne_ao (hF45 _ _ _ (hU2.n (gne_ao hM_2 hM_0) hM_2) (gno (gne_ao (hU2.n (gne_ao hM_2 hM_0) hM_2) hU2.1) gno0)) hc44) gno0))
      refine g_goto hC dX2_delimiter_31 82 rfl ?_
      exact g_vret hC (fun k9 hk9 => ⟨(by rw [hc54]; simp only [cDelP, cDelG, cDelE, eq_true c_5, eq_true c_49, if_true, if_false, true_and, and_true, false_and, and_false, true_or, or_true, false_or, or_false, not_true_eq_false, not_false_eq_true, reduceIte, decide_true, decide_false, Bool.false_eq_true, ← eF4, ← eF48, ← eF58]), (by rw [hH60]; simp only [cDelP, cDelG, cDelE, eq_true c_5, eq_true c_49, if_true, if_false, true_and, and_true, false_and, and_false, true_or, or_true, false_or, or_false, not_true_eq_false, not_false_eq_true, reduceIte, decide_true, decide_false, Bool.false_eq_true, ← eF4, ← eF48, ← eF58]), (((gFr.refl.up hU2 hM_0 (by simp)).trans (hF45.mono (by intro b t hb; simp at hb ⊢; first | done | (rcases hb with rfl | rfl | rfl | rfl <;> simp) | (simp [hb]; done)))).trans (hF55.mono (by intro b t hb; simp at hb ⊢; first | done | (rcases hb with rfl | rfl | rfl | rfl <;> simp) | (simp [hb]; done)))), (by first | exact Nat.le_zero.mp hk9 | omega)⟩) dX2_delimiter_82 (Nat.le_of_ble_eq_true rfl) (Nat.le_of_ble_eq_true rfl)
def cIntP (g : Nat → Int32) (ph : Nat) (sm pl : Int32) : Nat := if sm = 0 then (if g 5 < 2 then 6 else 4) else if g 5 + 1 = 3 then (if g 2 = 0 then 3 else if cPas (cCnt g) pl = true then 9 else 3) else ph
def cIntG (g : Nat → Int32) (sm pl : Int32) : Nat → Int32 := if sm = 0 then (if g 5 < 2 then cOver g else cBegG g false) else if g 5 + 1 = 3 then upd (cCnt g) 5 0 else cCnt g
def cIntS (g s : Nat → Int32) (sm : Int32) : Nat → Int32 := if sm = 0 then (if g 5 < 2 then s else cBegS s) else s
set_option maxHeartbeats 4000000 in
theorem met_Nd_intermission (l : Launch) (G : gG) (M : gM) (nd : Nat) (tn : Nat × Nat) (of : Nat) (ph : Nat) (cu : Option Nat) (sa : Nat) (wa : Nat) (rc : Nat) (an : Nat) (er : Nat) (g1 : Nat → Int32) (tb : Nat × Nat) (bn : Nat) (bd : Nat) (bh : Nat) (bt : Int32) (pl : Int32) (ol : Int32) (rv : Int32) (ts : Nat × Nat) (s1 : Nat → Int32) (sm : Int32)  (hM_0 : M nd = some (tn, .inr (2, ndL G of ph cu sa wa rc an er g1))) (hM_1 : M of = some (tb, .inr (1, [.ref bn, .ref bd, .ref bh, .int bt, .int pl, .int ol, .int rv]))) (hM_2 : M sa = some (ts, .inr (4, smL G  s1))) : Met l yX2_intermission (ws_ yX2_intermission cX2_intermission 2 none) ({ frames := 4, cells := 1, slots := 2, locals := 73 }) (gPc G [.ref nd, .int sm] M) (gQv G (fun M9 k9 => M9 nd = some (tn, .inr (2, ndL G of (cIntP g1 ph sm pl) cu sa wa rc an er (cIntG g1 sm pl))) ∧ M9 sa = some (ts, .inr (4, smL G  (cIntS g1 s1 sm))) ∧ gFr (gL [nd, sa]) M M9 ∧ k9 ≤ 1)) 1 2 (gA G) := by
  refine gMet [(0, .ref nd), (1, .int sm)] (by decide) (Nat.le_of_ble_eq_true rfl) rfl ?_
  intro p e s m below meth c hC
  refine g_iload_n hC dX2_intermission_0 1 rfl 1 rfl ?_
  refine g_if_ne hC dX2_intermission_1 27 rfl 4 rfl (fun c_1 => ?_) (fun c_1 => ?_)
  · refine g_aload_n hC dX2_intermission_27 0 rfl gRef_r 28 rfl ?_
    refine g_iconst hC dX2_intermission_28 ki_3 29 rfl ?_
    refine g_calli (g_V (As := [.int 3]) (rest := []) hC mvX2_counts q2258 (gOf.of hC.K cI2 hM_0) (met_Nd_counts l G M nd tn of ph cu sa wa rc an er g1 3 hM_0) ⟨rfl, rfl⟩ ⟨(Nat.le_of_ble_eq_true rfl), (Nat.le_of_ble_eq_true rfl)⟩ rfl (Nat.le_of_ble_eq_true rfl) dX2_intermission_29 rfl ⟨(Nat.le_of_ble_eq_true rfl), (Nat.le_of_ble_eq_true rfl)⟩) 0 (Nat.le_of_ble_eq_true rfl) 0 (Nat.le_of_ble_eq_true rfl) 32 rfl (fun r5 M2 k3 hp4 => ?_)
    obtain ⟨rfl, hc6, hF7, hk8⟩ := hp4
    obtain ⟨F9, eF10⟩ : ∃ z9, z9 = cCnt g1 := ⟨_, rfl⟩
    rw [← eF10] at hc6
    refine g_if_eq hC dX2_intermission_32 62 rfl 35 rfl (fun c_11 => ?_) (fun c_11 => ?_)
    · replace c_11 := bId_0 c_11
      exact g_vret hC (fun k9 hk9 => ⟨(by rw [hc6]; simp only [cIntP, cIntG, cIntS, eq_false c_1, eq_false c_11, if_true, if_false, true_and, and_true, false_and, and_false, true_or, or_true, false_or, or_false, not_true_eq_false, not_false_eq_true, reduceIte, decide_true, decide_false, Bool.false_eq_true, ← eF10]), (by rw [(hF7 _ _ _ hM_2 (gno (gne_c hM_2 hM_0 (by decide)) gno0))]; simp only [cIntP, cIntG, cIntS, eq_false c_1, eq_false c_11, if_true, if_false, true_and, and_true, false_and, and_false, true_or, or_true, false_or, or_false, not_true_eq_false, not_false_eq_true, reduceIte, decide_true, decide_false, Bool.false_eq_true, ← eF10]), (gFr.refl.trans (hF7.mono (by intro b t hb; simp at hb ⊢; first | done | (rcases hb with rfl | rfl | rfl | rfl <;> simp) | (simp [hb]; done)))), (by first | exact Nat.le_zero.mp hk9 | omega)⟩) dX2_intermission_62 (Nat.le_of_ble_eq_true rfl) (Nat.le_of_ble_eq_true rfl)
    · replace c_11 := bId_1 c_11
      refine g_aload_n hC dX2_intermission_35 0 rfl gRef_r 36 rfl ?_
      refine g_aload_n hC dX2_intermission_36 0 rfl gRef_r 37 rfl ?_
      refine g_get (v := .int (F9 2)) hC cI2 hc6 2 (Nat.le_of_ble_eq_true rfl) q372 rfl dX2_intermission_37 40 rfl ?_
      refine g_topi (y := g1 2) (by rw [(show F9 = upd g1 5 (g1 5 + 1) from eF10), pk_un (by omega)]) ?_
      refine g_if_eq hC dX2_intermission_40 56 rfl 43 rfl (fun c_12 => ?_) (fun c_12 => ?_)
      · refine g_phase hC 3 (by decide) rfl q227 dX2_intermission_56 59 rfl ?_
        refine g_callv (g_V (As := [.ref (gph G 3)]) (rest := []) hC mvX2_enter q2135 (gOf.of hC.K cI2 hc6) (met_Nd_enter l G M2 nd tn of ph cu sa wa rc an er F9 3 hc6) ⟨rfl, rfl⟩ ⟨(Nat.le_of_ble_eq_true rfl), (Nat.le_of_ble_eq_true rfl)⟩ rfl (Nat.le_of_ble_eq_true rfl) dX2_intermission_59 rfl ⟨(Nat.le_of_ble_eq_true rfl), (Nat.le_of_ble_eq_true rfl)⟩) 0 (Nat.le_of_ble_eq_true rfl) 0 (Nat.le_of_ble_eq_true rfl) 62 rfl (fun M13 k14 hp15 => ?_)
        obtain ⟨hc17, hF18, hk19⟩ := hp15
        obtain ⟨F20, eF21⟩ : ∃ z9, z9 = upd F9 5 0 := ⟨_, rfl⟩
        rw [← eF21] at hc17
        exact g_vret hC (fun k9 hk9 => ⟨(by rw [hc17]; simp only [cIntP, cIntG, cIntS, eq_false c_1, eq_true c_11, eq_true c_12, if_true, if_false, true_and, and_true, false_and, and_false, true_or, or_true, false_or, or_false, not_true_eq_false, not_false_eq_true, reduceIte, decide_true, decide_false, Bool.false_eq_true, ← eF10, ← eF21]), (by rw [(hF18 _ _ _ (hF7 _ _ _ hM_2 (gno (gne_c hM_2 hM_0 (by decide)) gno0)) (gno (gne_c (hF7 _ _ _ hM_2 (gno (gne_c hM_2 hM_0 (by decide)) gno0)) hc6 (by decide)) gno0))]; simp only [cIntP, cIntG, cIntS, eq_false c_1, eq_true c_11, eq_true c_12, if_true, if_false, true_and, and_true, false_and, and_false, true_or, or_true, false_or, or_false, not_true_eq_false, not_false_eq_true, reduceIte, decide_true, decide_false, Bool.false_eq_true, ← eF10, ← eF21]), ((gFr.refl.trans (hF7.mono (by intro b t hb; simp at hb ⊢; first | done | (rcases hb with rfl | rfl | rfl | rfl <;> simp) | (simp [hb]; done)))).trans (hF18.mono (by intro b t hb; simp at hb ⊢; first | done | (rcases hb with rfl | rfl | rfl | rfl <;> simp) | (simp [hb]; done)))), (by first | exact Nat.le_zero.mp hk9 | omega)⟩) dX2_intermission_62 (Nat.le_of_ble_eq_true rfl) (Nat.le_of_ble_eq_true rfl)
      · refine g_aload_n hC dX2_intermission_43 0 rfl gRef_r 44 rfl ?_
        refine g_calliP (g_V (As := []) (rest := [.ref nd]) hC mvX2_isPassive q2197 (gOf.of hC.K cI2 hc6) (met_Nd_isPassive l G M2 nd tn of ph cu sa wa rc an er F9 tb bn bd bh bt pl ol rv hc6 (hF7 _ _ _ hM_1 (gno (gne_c hM_1 hM_0 (by decide)) gno0))) ⟨rfl, rfl⟩ ⟨(Nat.le_of_ble_eq_true rfl), (Nat.le_of_ble_eq_true rfl)⟩ rfl (Nat.le_of_ble_eq_true rfl) dX2_intermission_44 rfl ⟨(Nat.le_of_ble_eq_true rfl), (Nat.le_of_ble_eq_true rfl)⟩) 47 rfl 0 (Nat.le_of_ble_eq_true rfl) ?_
        refine g_if_eq hC dX2_intermission_47 56 rfl 50 rfl (fun c_22 => ?_) (fun c_22 => ?_)
        · replace c_22 : cPas F9 pl = false := bB_e0 c_22
          refine g_phase hC 3 (by decide) rfl q227 dX2_intermission_56 59 rfl ?_
          refine g_callv (g_V (As := [.ref (gph G 3)]) (rest := []) hC mvX2_enter q2135 (gOf.of hC.K cI2 hc6) (met_Nd_enter l G M2 nd tn of ph cu sa wa rc an er F9 3 hc6) ⟨rfl, rfl⟩ ⟨(Nat.le_of_ble_eq_true rfl), (Nat.le_of_ble_eq_true rfl)⟩ rfl (Nat.le_of_ble_eq_true rfl) dX2_intermission_59 rfl ⟨(Nat.le_of_ble_eq_true rfl), (Nat.le_of_ble_eq_true rfl)⟩) 0 (Nat.le_of_ble_eq_true rfl) 0 (Nat.le_of_ble_eq_true rfl) 62 rfl (fun M23 k24 hp25 => ?_)
          obtain ⟨hc27, hF28, hk29⟩ := hp25
          obtain ⟨F30, eF31⟩ : ∃ z9, z9 = upd F9 5 0 := ⟨_, rfl⟩
          rw [← eF31] at hc27
          exact g_vret hC (fun k9 hk9 => ⟨(by rw [hc27]; simp only [cIntP, cIntG, cIntS, eq_false c_1, eq_true c_11, eq_false c_12, eq_false (bF_nt c_22), eq_true c_22, if_true, if_false, true_and, and_true, false_and, and_false, true_or, or_true, false_or, or_false, not_true_eq_false, not_false_eq_true, reduceIte, decide_true, decide_false, Bool.false_eq_true, ← eF10, ← eF31]), (by rw [(hF28 _ _ _ (hF7 _ _ _ hM_2 (gno (gne_c hM_2 hM_0 (by decide)) gno0)) (gno (gne_c (hF7 _ _ _ hM_2 (gno (gne_c hM_2 hM_0 (by decide)) gno0)) hc6 (by decide)) gno0))]; simp only [cIntP, cIntG, cIntS, eq_false c_1, eq_true c_11, eq_false c_12, eq_false (bF_nt c_22), eq_true c_22, if_true, if_false, true_and, and_true, false_and, and_false, true_or, or_true, false_or, or_false, not_true_eq_false, not_false_eq_true, reduceIte, decide_true, decide_false, Bool.false_eq_true, ← eF10, ← eF31]), ((gFr.refl.trans (hF7.mono (by intro b t hb; simp at hb ⊢; first | done | (rcases hb with rfl | rfl | rfl | rfl <;> simp) | (simp [hb]; done)))).trans (hF28.mono (by intro b t hb; simp at hb ⊢; first | done | (rcases hb with rfl | rfl | rfl | rfl <;> simp) | (simp [hb]; done)))), (by first | exact Nat.le_zero.mp hk9 | omega)⟩) dX2_intermission_62 (Nat.le_of_ble_eq_true rfl) (Nat.le_of_ble_eq_true rfl)
        · replace c_22 : cPas F9 pl = true := bB_n0 c_22
          refine g_phase hC 9 (by decide) rfl q2280 dX2_intermission_50 53 rfl ?_
          refine g_goto hC dX2_intermission_53 59 rfl ?_
          refine g_callv (g_V (As := [.ref (gph G 9)]) (rest := []) hC mvX2_enter q2135 (gOf.of hC.K cI2 hc6) (met_Nd_enter l G M2 nd tn of ph cu sa wa rc an er F9 9 hc6) ⟨rfl, rfl⟩ ⟨(Nat.le_of_ble_eq_true rfl), (Nat.le_of_ble_eq_true rfl)⟩ rfl (Nat.le_of_ble_eq_true rfl) dX2_intermission_59 rfl ⟨(Nat.le_of_ble_eq_true rfl), (Nat.le_of_ble_eq_true rfl)⟩) 0 (Nat.le_of_ble_eq_true rfl) 0 (Nat.le_of_ble_eq_true rfl) 62 rfl (fun M32 k33 hp34 => ?_)
          obtain ⟨hc36, hF37, hk38⟩ := hp34
          obtain ⟨F39, eF40⟩ : ∃ z9, z9 = upd F9 5 0 := ⟨_, rfl⟩
          rw [← eF40] at hc36
          exact g_vret hC (fun k9 hk9 => ⟨(by rw [hc36]; simp only [cIntP, cIntG, cIntS, eq_false c_1, eq_true c_11, eq_false c_12, eq_true c_22, if_true, if_false, true_and, and_true, false_and, and_false, true_or, or_true, false_or, or_false, not_true_eq_false, not_false_eq_true, reduceIte, decide_true, decide_false, Bool.false_eq_true, ← eF10, ← eF40]), (by rw [(hF37 _ _ _ (hF7 _ _ _ hM_2 (gno (gne_c hM_2 hM_0 (by decide)) gno0)) (gno (gne_c (hF7 _ _ _ hM_2 (gno (gne_c hM_2 hM_0 (by decide)) gno0)) hc6 (by decide)) gno0))]; simp only [cIntP, cIntG, cIntS, eq_false c_1, eq_true c_11, eq_false c_12, eq_true c_22, if_true, if_false, true_and, and_true, false_and, and_false, true_or, or_true, false_or, or_false, not_true_eq_false, not_false_eq_true, reduceIte, decide_true, decide_false, Bool.false_eq_true, ← eF10, ← eF40]), ((gFr.refl.trans (hF7.mono (by intro b t hb; simp at hb ⊢; first | done | (rcases hb with rfl | rfl | rfl | rfl <;> simp) | (simp [hb]; done)))).trans (hF37.mono (by intro b t hb; simp at hb ⊢; first | done | (rcases hb with rfl | rfl | rfl | rfl <;> simp) | (simp [hb]; done)))), (by first | exact Nat.le_zero.mp hk9 | omega)⟩) dX2_intermission_62 (Nat.le_of_ble_eq_true rfl) (Nat.le_of_ble_eq_true rfl)
  · refine g_aload_n hC dX2_intermission_4 0 rfl gRef_r 5 rfl ?_
    refine g_get (v := .int (g1 5)) hC cI2 hM_0 5 (Nat.le_of_ble_eq_true rfl) q380 rfl dX2_intermission_5 8 rfl ?_
    refine g_iconst hC dX2_intermission_8 ki_2 9 rfl ?_
    refine g_icmp_ge hC dX2_intermission_9 19 rfl 12 rfl (fun c_41 => ?_) (fun c_41 => ?_)
    · refine g_aload_n hC dX2_intermission_19 0 rfl gRef_r 20 rfl ?_
      refine g_iconst hC dX2_intermission_20 ki_0 21 rfl ?_
      refine g_callv (g_V (As := [.int 0]) (rest := []) hC mvX2_begin q2279 (gOf.of hC.K cI2 hM_0) (met_Nd_begin l G M nd tn of ph cu sa wa rc an er g1 ts s1 false hM_0 hM_2) ⟨rfl, rfl⟩ ⟨(Nat.le_of_ble_eq_true rfl), (Nat.le_of_ble_eq_true rfl)⟩ rfl (Nat.le_of_ble_eq_true rfl) dX2_intermission_21 rfl ⟨(Nat.le_of_ble_eq_true rfl), (Nat.le_of_ble_eq_true rfl)⟩) 1 (Nat.le_of_ble_eq_true rfl) 2 (Nat.le_of_ble_eq_true rfl) 24 rfl (fun M42 k43 hp44 => ?_)
      obtain ⟨hc46, hc47, hF48, hk49⟩ := hp44
      obtain ⟨F50, eF51⟩ : ∃ z9, z9 = cBegG g1 false := ⟨_, rfl⟩
      rw [← eF51] at hc46
      obtain ⟨F52, eF53⟩ : ∃ z9, z9 = cBegS s1 := ⟨_, rfl⟩
      rw [← eF53] at hc47
      refine g_goto hC dX2_intermission_24 62 rfl ?_
      exact g_vret hC (fun k9 hk9 => ⟨(by rw [hc46]; simp only [cIntP, cIntG, cIntS, eq_true c_1, eq_true c_41, eq_false (Int32.not_lt.mpr c_41), if_true, if_false, true_and, and_true, false_and, and_false, true_or, or_true, false_or, or_false, not_true_eq_false, not_false_eq_true, reduceIte, decide_true, decide_false, Bool.false_eq_true, ← eF51, ← eF53]), (by rw [hc47]; simp only [cIntP, cIntG, cIntS, eq_true c_1, eq_true c_41, eq_false (Int32.not_lt.mpr c_41), if_true, if_false, true_and, and_true, false_and, and_false, true_or, or_true, false_or, or_false, not_true_eq_false, not_false_eq_true, reduceIte, decide_true, decide_false, Bool.false_eq_true, ← eF51, ← eF53]), (gFr.refl.trans (hF48.mono (by intro b t hb; simp at hb ⊢; first | done | (rcases hb with rfl | rfl | rfl | rfl <;> simp) | (simp [hb]; done)))), (by first | exact Nat.le_zero.mp hk9 | omega)⟩) dX2_intermission_62 (Nat.le_of_ble_eq_true rfl) (Nat.le_of_ble_eq_true rfl)
    · refine g_aload_n hC dX2_intermission_12 0 rfl gRef_r 13 rfl ?_
      refine g_callv (g_V (As := []) (rest := []) hC mvX2_overload q2218 (gOf.of hC.K cI2 hM_0) (met_Nd_overload l G M nd tn of ph cu sa wa rc an er g1 hM_0) ⟨rfl, rfl⟩ ⟨(Nat.le_of_ble_eq_true rfl), (Nat.le_of_ble_eq_true rfl)⟩ rfl (Nat.le_of_ble_eq_true rfl) dX2_intermission_13 rfl ⟨(Nat.le_of_ble_eq_true rfl), (Nat.le_of_ble_eq_true rfl)⟩) 0 (Nat.le_of_ble_eq_true rfl) 0 (Nat.le_of_ble_eq_true rfl) 16 rfl (fun M54 k55 hp56 => ?_)
      obtain ⟨hc58, hF59, hk60⟩ := hp56
      obtain ⟨F61, eF62⟩ : ∃ z9, z9 = cOver g1 := ⟨_, rfl⟩
      rw [← eF62] at hc58
      refine g_goto hC dX2_intermission_16 62 rfl ?_
      exact g_vret hC (fun k9 hk9 => ⟨(by rw [hc58]; simp only [cIntP, cIntG, cIntS, eq_true c_1, eq_false c_41, eq_true (Int32.not_le.mp c_41), if_true, if_false, true_and, and_true, false_and, and_false, true_or, or_true, false_or, or_false, not_true_eq_false, not_false_eq_true, reduceIte, decide_true, decide_false, Bool.false_eq_true, ← eF62]), (by rw [(hF59 _ _ _ hM_2 (gno (gne_c hM_2 hM_0 (by decide)) gno0))]; simp only [cIntP, cIntG, cIntS, eq_true c_1, eq_false c_41, eq_true (Int32.not_le.mp c_41), if_true, if_false, true_and, and_true, false_and, and_false, true_or, or_true, false_or, or_false, not_true_eq_false, not_false_eq_true, reduceIte, decide_true, decide_false, Bool.false_eq_true, ← eF62]), (gFr.refl.trans (hF59.mono (by intro b t hb; simp at hb ⊢; first | done | (rcases hb with rfl | rfl | rfl | rfl <;> simp) | (simp [hb]; done)))), (by first | exact Nat.le_zero.mp hk9 | omega)⟩) dX2_intermission_62 (Nat.le_of_ble_eq_true rfl) (Nat.le_of_ble_eq_true rfl)
def cRunB (g : Nat → Int32) (sm : Int32) : Bool := decide ((if sm = 1 then g 5 + 1 else 0) = 11)
def cRunG (g : Nat → Int32) (sm : Int32) : Nat → Int32 := upd (upd g 5 (if sm = 1 then g 5 + 1 else 0)) 5 (if (if sm = 1 then g 5 + 1 else 0) = 11 then 0 else (if sm = 1 then g 5 + 1 else 0))
set_option maxHeartbeats 4000000 in
theorem met_Nd_endsRun (l : Launch) (G : gG) (M : gM) (nd : Nat) (tn : Nat × Nat) (of : Nat) (ph : Nat) (cu : Option Nat) (sa : Nat) (wa : Nat) (rc : Nat) (an : Nat) (er : Nat) (g1 : Nat → Int32) (sm : Int32)  (hM_0 : M nd = some (tn, .inr (2, ndL G of ph cu sa wa rc an er g1))) : Met l yX2_endsRun (ws_ yX2_endsRun cX2_endsRun 3 (some .boolean)) ({ frames := 0, cells := 0, slots := 0, locals := 0 }) (gPc G [.ref nd, .int sm] M) (gQi G (fun r9 M9 k9 => r9 = (bI (cRunB g1 sm)) ∧ M9 nd = some (tn, .inr (2, ndL G of ph cu sa wa rc an er (cRunG g1 sm))) ∧ gFr (gL [nd]) M M9 ∧ k9 = 0)) 0 0 (gA G) := by
  refine gMet [(0, .ref nd), (1, .int sm)] (by decide) (Nat.le_of_ble_eq_true rfl) rfl ?_
  intro p e s m below meth c hC
  refine g_aload_n hC dX2_endsRun_0 0 rfl gRef_r 1 rfl ?_
  refine g_iload_n hC dX2_endsRun_1 1 rfl 2 rfl ?_
  refine g_iconst hC dX2_endsRun_2 ki_1 3 rfl ?_
  refine g_icmp_ne hC dX2_endsRun_3 15 rfl 6 rfl (fun c_1 => ?_) (fun c_1 => ?_)
  · refine g_iconst hC dX2_endsRun_15 ki_0 16 rfl ?_
    obtain ⟨F4, eF5⟩ : ∃ z9, z9 = upd g1 5 0 := ⟨_, rfl⟩
    refine g_put hC cI2 hM_0 5 (Nat.le_of_ble_eq_true rfl) q380 rfl rfl rfl (Nat.le_of_ble_eq_true rfl) dX2_endsRun_16 (fs' := ndL G of ph cu sa wa rc an er F4) (by rw [eF5]; exact ndL_s5) 19 rfl (fun M2 hU3 => ?_)
    refine g_aload_n hC dX2_endsRun_19 0 rfl gRef_r 20 rfl ?_
    refine g_get (v := .int (F4 5)) hC cI2 hU3.1 5 (Nat.le_of_ble_eq_true rfl) q380 rfl dX2_endsRun_20 23 rfl ?_
    refine g_topi (y := 0) (by rw [eF5]; exact pk_us) ?_
    refine g_bipush hC dX2_endsRun_23 kb_11 25 rfl ?_
    refine g_icmp_ne hC dX2_endsRun_25 32 rfl 28 rfl (fun c_6 => ?_) (fun c_6 => ?_)
    · refine g_iconst hC dX2_endsRun_32 ki_0 33 rfl ?_
      refine g_istore_n hC dX2_endsRun_33 rfl (Nat.le_of_ble_eq_true rfl) [(2, .int 0), (0, .ref nd), (1, .int sm)] rfl 34 rfl ?_
      refine g_aload_n hC dX2_endsRun_34 1 rfl gRef_r 35 rfl ?_
      refine g_iload_n hC dX2_endsRun_35 0 rfl 36 rfl ?_
      refine g_if_eq hC dX2_endsRun_36 43 rfl 39 rfl (fun c_7 => ?_) (fun c_7 => ?_)
      · refine g_aload_n hC dX2_endsRun_43 1 rfl gRef_r 44 rfl ?_
        refine g_get (v := .int (F4 5)) hC cI2 hU3.1 5 (Nat.le_of_ble_eq_true rfl) q380 rfl dX2_endsRun_44 47 rfl ?_
        refine g_topi (y := 0) (by rw [eF5]; exact pk_us) ?_
        obtain ⟨F10, eF11⟩ : ∃ z9, z9 = upd F4 5 0 := ⟨_, rfl⟩
        refine g_put hC cI2 hU3.1 5 (Nat.le_of_ble_eq_true rfl) q380 rfl rfl rfl (Nat.le_of_ble_eq_true rfl) dX2_endsRun_47 (fs' := ndL G of ph cu sa wa rc an er F10) (by rw [eF11]; exact ndL_s5) 50 rfl (fun M8 hU9 => ?_)
        refine g_iload_n hC dX2_endsRun_50 0 rfl 51 rfl ?_
        exact g_zret (v := 0) hC (by decide) (fun k9 hk9 => ⟨(by simp only [cRunB, eq_false c_1, eq_false c_6, eq_true c_7, if_true, if_false, true_and, and_true, false_and, and_false, true_or, or_true, false_or, or_false, not_true_eq_false, not_false_eq_true, reduceIte, decide_true, decide_false, Bool.false_eq_true]; first | rfl | (simp [bI]; done)), (by rw [hU9.1]; simp only [cRunG, eq_false c_1, eq_false c_6, eq_true c_7, if_true, if_false, true_and, and_true, false_and, and_false, true_or, or_true, false_or, or_false, not_true_eq_false, not_false_eq_true, reduceIte, decide_true, decide_false, Bool.false_eq_true, ← eF5, ← eF11]), ((gFr.refl.up hU3 hM_0 (by simp)).up hU9 hU3.1 (by simp)), (by first | exact Nat.le_zero.mp hk9 | omega)⟩) dX2_endsRun_51 (Nat.le_of_ble_eq_true rfl) (Nat.le_of_ble_eq_true rfl)
      · exact absurd c_7 (by decide)
    · exact absurd c_6 (by decide)
  · refine g_aload_n hC dX2_endsRun_6 0 rfl gRef_r 7 rfl ?_
    refine g_get (v := .int (g1 5)) hC cI2 hM_0 5 (Nat.le_of_ble_eq_true rfl) q380 rfl dX2_endsRun_7 10 rfl ?_
    refine g_iconst hC dX2_endsRun_10 ki_1 11 rfl ?_
    refine g_iadd hC dX2_endsRun_11 12 rfl ?_
    refine g_goto hC dX2_endsRun_12 16 rfl ?_
    obtain ⟨F14, eF15⟩ : ∃ z9, z9 = upd g1 5 ((g1 5) + 1) := ⟨_, rfl⟩
    refine g_put hC cI2 hM_0 5 (Nat.le_of_ble_eq_true rfl) q380 rfl rfl rfl (Nat.le_of_ble_eq_true rfl) dX2_endsRun_16 (fs' := ndL G of ph cu sa wa rc an er F14) (by rw [eF15]; exact ndL_s5) 19 rfl (fun M12 hU13 => ?_)
    refine g_aload_n hC dX2_endsRun_19 0 rfl gRef_r 20 rfl ?_
    refine g_get (v := .int (F14 5)) hC cI2 hU13.1 5 (Nat.le_of_ble_eq_true rfl) q380 rfl dX2_endsRun_20 23 rfl ?_
    refine g_topi (y := (g1 5) + 1) (by rw [eF15]; exact pk_us) ?_
    refine g_bipush hC dX2_endsRun_23 kb_11 25 rfl ?_
    refine g_icmp_ne hC dX2_endsRun_25 32 rfl 28 rfl (fun c_16 => ?_) (fun c_16 => ?_)
    · refine g_iconst hC dX2_endsRun_32 ki_0 33 rfl ?_
      refine g_istore_n hC dX2_endsRun_33 rfl (Nat.le_of_ble_eq_true rfl) [(2, .int 0), (0, .ref nd), (1, .int sm)] rfl 34 rfl ?_
      refine g_aload_n hC dX2_endsRun_34 1 rfl gRef_r 35 rfl ?_
      refine g_iload_n hC dX2_endsRun_35 0 rfl 36 rfl ?_
      refine g_if_eq hC dX2_endsRun_36 43 rfl 39 rfl (fun c_17 => ?_) (fun c_17 => ?_)
      · refine g_aload_n hC dX2_endsRun_43 1 rfl gRef_r 44 rfl ?_
        refine g_get (v := .int (F14 5)) hC cI2 hU13.1 5 (Nat.le_of_ble_eq_true rfl) q380 rfl dX2_endsRun_44 47 rfl ?_
        refine g_topi (y := (g1 5) + 1) (by rw [eF15]; exact pk_us) ?_
        obtain ⟨F20, eF21⟩ : ∃ z9, z9 = upd F14 5 ((g1 5) + 1) := ⟨_, rfl⟩
        refine g_put hC cI2 hU13.1 5 (Nat.le_of_ble_eq_true rfl) q380 rfl rfl rfl (Nat.le_of_ble_eq_true rfl) dX2_endsRun_47 (fs' := ndL G of ph cu sa wa rc an er F20) (by rw [eF21]; exact ndL_s5) 50 rfl (fun M18 hU19 => ?_)
        refine g_iload_n hC dX2_endsRun_50 0 rfl 51 rfl ?_
        exact g_zret (v := 0) hC (by decide) (fun k9 hk9 => ⟨(by simp only [cRunB, eq_true c_1, eq_false c_16, eq_true c_17, if_true, if_false, true_and, and_true, false_and, and_false, true_or, or_true, false_or, or_false, not_true_eq_false, not_false_eq_true, reduceIte, decide_true, decide_false, Bool.false_eq_true]; first | rfl | (simp [bI]; done)), (by rw [hU19.1]; simp only [cRunG, eq_true c_1, eq_false c_16, eq_true c_17, if_true, if_false, true_and, and_true, false_and, and_false, true_or, or_true, false_or, or_false, not_true_eq_false, not_false_eq_true, reduceIte, decide_true, decide_false, Bool.false_eq_true, ← eF15, ← eF21]), ((gFr.refl.up hU13 hM_0 (by simp)).up hU19 hU13.1 (by simp)), (by first | exact Nat.le_zero.mp hk9 | omega)⟩) dX2_endsRun_51 (Nat.le_of_ble_eq_true rfl) (Nat.le_of_ble_eq_true rfl)
      · exact absurd c_17 (by decide)
    · refine g_iconst hC dX2_endsRun_28 ki_1 29 rfl ?_
      refine g_goto hC dX2_endsRun_29 33 rfl ?_
      refine g_istore_n hC dX2_endsRun_33 rfl (Nat.le_of_ble_eq_true rfl) [(2, .int 1), (0, .ref nd), (1, .int sm)] rfl 34 rfl ?_
      refine g_aload_n hC dX2_endsRun_34 1 rfl gRef_r 35 rfl ?_
      refine g_iload_n hC dX2_endsRun_35 0 rfl 36 rfl ?_
      refine g_if_eq hC dX2_endsRun_36 43 rfl 39 rfl (fun c_22 => ?_) (fun c_22 => ?_)
      · exact absurd c_22 (by decide)
      · refine g_iconst hC dX2_endsRun_39 ki_0 40 rfl ?_
        refine g_goto hC dX2_endsRun_40 47 rfl ?_
        obtain ⟨F25, eF26⟩ : ∃ z9, z9 = upd F14 5 0 := ⟨_, rfl⟩
        refine g_put hC cI2 hU13.1 5 (Nat.le_of_ble_eq_true rfl) q380 rfl rfl rfl (Nat.le_of_ble_eq_true rfl) dX2_endsRun_47 (fs' := ndL G of ph cu sa wa rc an er F25) (by rw [eF26]; exact ndL_s5) 50 rfl (fun M23 hU24 => ?_)
        refine g_iload_n hC dX2_endsRun_50 0 rfl 51 rfl ?_
        exact g_zret (v := 1) hC (by decide) (fun k9 hk9 => ⟨(by simp only [cRunB, eq_true c_1, eq_true c_16, eq_false c_22, if_true, if_false, true_and, and_true, false_and, and_false, true_or, or_true, false_or, or_false, not_true_eq_false, not_false_eq_true, reduceIte, decide_true, decide_false, Bool.false_eq_true]; first | rfl | (simp [bI]; done)), (by rw [hU24.1]; simp only [cRunG, eq_true c_1, eq_true c_16, eq_false c_22, if_true, if_false, true_and, and_true, false_and, and_false, true_or, or_true, false_or, or_false, not_true_eq_false, not_false_eq_true, reduceIte, decide_true, decide_false, Bool.false_eq_true, ← eF15, ← eF26]), ((gFr.refl.up hU13 hM_0 (by simp)).up hU24 hU13.1 (by simp)), (by first | exact Nat.le_zero.mp hk9 | omega)⟩) dX2_endsRun_51 (Nat.le_of_ble_eq_true rfl) (Nat.le_of_ble_eq_true rfl)
set_option maxHeartbeats 4000000 in
theorem met_Nd_isOn (l : Launch) (G : gG) (M : gM) (nd : Nat) (tn : Nat × Nat) (of : Nat) (ph : Nat) (cu : Option Nat) (sa : Nat) (wa : Nat) (rc : Nat) (an : Nat) (er : Nat) (g1 : Nat → Int32) (hph : ph < 10) (hM_0 : M nd = some (tn, .inr (2, ndL G of ph cu sa wa rc an er g1))) : Met l yX2_isOn (ws_ yX2_isOn cX2_isOn 1 (some .boolean)) ({ frames := 0, cells := 0, slots := 0, locals := 0 }) (gPc G [.ref nd] M) (gQi G (fun r9 M9 k9 => r9 = (bI (decide (¬ ph = 0 ∧ ¬ ph = 1))) ∧ M9 = M ∧ k9 = 0)) 0 0 (gA G) := by
  refine gMet [(0, .ref nd)] (by decide) (Nat.le_of_ble_eq_true rfl) rfl ?_
  intro p e s m below meth c hC
  refine g_aload_n hC dX2_isOn_0 0 rfl gRef_r 1 rfl ?_
  refine g_get (v := .ref (gph G ph)) hC cI2 hM_0 1 (Nat.le_of_ble_eq_true rfl) q369 rfl dX2_isOn_1 4 rfl ?_
  refine g_phase hC 0 (by decide) rfl q2298 dX2_isOn_4 7 rfl ?_
  refine g_acmp_eq (rx := some (gph G ph)) (ry := some (gph G 0)) hC dX2_isOn_7 24 rfl 10 rfl (fun c_1 => ?_) (fun c_1 => ?_)
  · replace c_1 : ph = 0 := gph_e hC (by omega) (by omega) c_1
    refine g_iconst hC dX2_isOn_24 ki_0 25 rfl ?_
    exact g_zret (v := 0) hC (by decide) (fun k9 hk9 => ⟨(bI_nd (by simp_all)), rfl, Nat.le_zero.mp hk9⟩) dX2_isOn_25 (Nat.le_of_ble_eq_true rfl) (Nat.le_of_ble_eq_true rfl)
  · replace c_1 : ¬ ph = 0 := gph_n hC c_1
    refine g_aload_n hC dX2_isOn_10 0 rfl gRef_r 11 rfl ?_
    refine g_get (v := .ref (gph G ph)) hC cI2 hM_0 1 (Nat.le_of_ble_eq_true rfl) q369 rfl dX2_isOn_11 14 rfl ?_
    refine g_phase hC 1 (by decide) rfl q2201 dX2_isOn_14 17 rfl ?_
    refine g_acmp_eq (rx := some (gph G ph)) (ry := some (gph G 1)) hC dX2_isOn_17 24 rfl 20 rfl (fun c_2 => ?_) (fun c_2 => ?_)
    · replace c_2 : ph = 1 := gph_e hC (by omega) (by omega) c_2
      refine g_iconst hC dX2_isOn_24 ki_0 25 rfl ?_
      exact g_zret (v := 0) hC (by decide) (fun k9 hk9 => ⟨(bI_nd (by simp_all)), rfl, Nat.le_zero.mp hk9⟩) dX2_isOn_25 (Nat.le_of_ble_eq_true rfl) (Nat.le_of_ble_eq_true rfl)
    · replace c_2 : ¬ ph = 1 := gph_n hC c_2
      refine g_iconst hC dX2_isOn_20 ki_1 21 rfl ?_
      refine g_goto hC dX2_isOn_21 25 rfl ?_
      exact g_zret (v := 1) hC (by decide) (fun k9 hk9 => ⟨(bI_d (by simp_all)), rfl, Nat.le_zero.mp hk9⟩) dX2_isOn_25 (Nat.le_of_ble_eq_true rfl) (Nat.le_of_ble_eq_true rfl)
set_option maxHeartbeats 4000000 in
theorem met_Nd_isSending (l : Launch) (G : gG) (M : gM) (nd : Nat) (tn : Nat × Nat) (of : Nat) (ph : Nat) (cu : Option Nat) (sa : Nat) (wa : Nat) (rc : Nat) (an : Nat) (er : Nat) (g1 : Nat → Int32) (hph : ph < 10) (hM_0 : M nd = some (tn, .inr (2, ndL G of ph cu sa wa rc an er g1))) : Met l yX2_isSending (ws_ yX2_isSending cX2_isSending 1 (some .boolean)) ({ frames := 0, cells := 0, slots := 0, locals := 0 }) (gPc G [.ref nd] M) (gQi G (fun r9 M9 k9 => r9 = (bI (decide (¬ g1 2 = 0 ∧ ph = 4))) ∧ M9 = M ∧ k9 = 0)) 0 0 (gA G) := by
  refine gMet [(0, .ref nd)] (by decide) (Nat.le_of_ble_eq_true rfl) rfl ?_
  intro p e s m below meth c hC
  refine g_aload_n hC dX2_isSending_0 0 rfl gRef_r 1 rfl ?_
  refine g_get (v := .int (g1 2)) hC cI2 hM_0 2 (Nat.le_of_ble_eq_true rfl) q372 rfl dX2_isSending_1 4 rfl ?_
  refine g_if_eq hC dX2_isSending_4 21 rfl 7 rfl (fun c_1 => ?_) (fun c_1 => ?_)
  · refine g_iconst hC dX2_isSending_21 ki_0 22 rfl ?_
    exact g_zret (v := 0) hC (by decide) (fun k9 hk9 => ⟨(bI_nd (by simp_all)), rfl, Nat.le_zero.mp hk9⟩) dX2_isSending_22 (Nat.le_of_ble_eq_true rfl) (Nat.le_of_ble_eq_true rfl)
  · refine g_aload_n hC dX2_isSending_7 0 rfl gRef_r 8 rfl ?_
    refine g_get (v := .ref (gph G ph)) hC cI2 hM_0 1 (Nat.le_of_ble_eq_true rfl) q369 rfl dX2_isSending_8 11 rfl ?_
    refine g_phase hC 4 (by decide) rfl q1749 dX2_isSending_11 14 rfl ?_
    refine g_acmp_ne (rx := some (gph G ph)) (ry := some (gph G 4)) hC dX2_isSending_14 21 rfl 17 rfl (fun c_2 => ?_) (fun c_2 => ?_)
    · replace c_2 : ¬ ph = 4 := gph_n hC c_2
      refine g_iconst hC dX2_isSending_21 ki_0 22 rfl ?_
      exact g_zret (v := 0) hC (by decide) (fun k9 hk9 => ⟨(bI_nd (by simp_all)), rfl, Nat.le_zero.mp hk9⟩) dX2_isSending_22 (Nat.le_of_ble_eq_true rfl) (Nat.le_of_ble_eq_true rfl)
    · replace c_2 : ph = 4 := gph_e hC (by omega) (by omega) c_2
      refine g_iconst hC dX2_isSending_17 ki_1 18 rfl ?_
      refine g_goto hC dX2_isSending_18 22 rfl ?_
      exact g_zret (v := 1) hC (by decide) (fun k9 hk9 => ⟨(bI_d (by simp_all)), rfl, Nat.le_zero.mp hk9⟩) dX2_isSending_22 (Nat.le_of_ble_eq_true rfl) (Nat.le_of_ble_eq_true rfl)
set_option maxHeartbeats 4000000 in
theorem met_Nd_isTransmitter (l : Launch) (G : gG) (M : gM) (nd : Nat) (tn : Nat × Nat) (of : Nat) (ph : Nat) (cu : Option Nat) (sa : Nat) (wa : Nat) (rc : Nat) (an : Nat) (er : Nat) (g1 : Nat → Int32) (hph : ph < 10) (hM_0 : M nd = some (tn, .inr (2, ndL G of ph cu sa wa rc an er g1))) : Met l yX2_isTransmitter (ws_ yX2_isTransmitter cX2_isTransmitter 1 (some .boolean)) ({ frames := 1, cells := 0, slots := 0, locals := 25 }) (gPc G [.ref nd] M) (gQi G (fun r9 M9 k9 => r9 = (bI (decide (¬ g1 2 = 0 ∧ 4 ≤ ph ∧ ph ≤ 8))) ∧ M9 = M ∧ k9 = 0)) 0 0 (gA G) := by
  refine gMet [(0, .ref nd)] (by decide) (Nat.le_of_ble_eq_true rfl) rfl ?_
  intro p e s m below meth c hC
  refine g_aload_n hC dX2_isTransmitter_0 0 rfl gRef_r 1 rfl ?_
  refine g_get (v := .int (g1 2)) hC cI2 hM_0 2 (Nat.le_of_ble_eq_true rfl) q372 rfl dX2_isTransmitter_1 4 rfl ?_
  refine g_if_eq hC dX2_isTransmitter_4 31 rfl 7 rfl (fun c_1 => ?_) (fun c_1 => ?_)
  · refine g_iconst hC dX2_isTransmitter_31 ki_0 32 rfl ?_
    exact g_zret (v := 0) hC (by decide) (fun k9 hk9 => ⟨(bI_nd (fun q => q.1 c_1)), rfl, Nat.le_zero.mp hk9⟩) dX2_isTransmitter_32 (Nat.le_of_ble_eq_true rfl) (Nat.le_of_ble_eq_true rfl)
  · refine g_aload_n hC dX2_isTransmitter_7 0 rfl gRef_r 8 rfl ?_
    refine g_get (v := .ref (gph G ph)) hC cI2 hM_0 1 (Nat.le_of_ble_eq_true rfl) q369 rfl dX2_isTransmitter_8 11 rfl ?_
    rcases (show ph = 0 ∨ ph = 1 ∨ ph = 2 ∨ ph = 3 ∨ ph = 4 ∨ ph = 5 ∨ ph = 6 ∨ ph = 7 ∨ ph = 8 ∨ ph = 9 by omega) with rfl | rfl | rfl | rfl | rfl | rfl | rfl | rfl | rfl | rfl
    · refine g_calliP (g_U (n := 0) (As := []) (rest := []) hC ⟨q1105, q1107, q1117, q109, q1118, (Or.inl rfl), by decide +kernel⟩ q2327 (show gOf G s _ "ArbitratedBus$Phase$1" (gph G 0) from gOf.ph hC.K (by decide)) (met_ordinal l G M 0 hph) ⟨rfl, rfl⟩ ⟨(Nat.le_of_ble_eq_true rfl), (Nat.le_of_ble_eq_true rfl)⟩ rfl (Nat.le_of_ble_eq_true rfl) dX2_isTransmitter_11 rfl ⟨(Nat.le_of_ble_eq_true rfl), (Nat.le_of_ble_eq_true rfl)⟩) 14 rfl 0 (Nat.le_of_ble_eq_true rfl) ?_
      refine g_i2l hC dX2_isTransmitter_14 15 rfl ?_
      refine g_ldc2 hC q2328 dX2_isTransmitter_15 18 rfl ?_
      refine g_ldc2 hC q2329 dX2_isTransmitter_18 21 rfl ?_
      refine g_calliP (g_SN (As := [.long (Int32.toInt64 (nI 0)), .long 4, .long 8]) (rest := []) hC msX0_isIn q2330 (met_isIn l G M (Int32.toInt64 (nI 0)) 4 8) ⟨rfl, rfl⟩ ⟨(Nat.le_of_ble_eq_true rfl), (Nat.le_of_ble_eq_true rfl)⟩ rfl (Nat.le_of_ble_eq_true rfl) dX2_isTransmitter_21 rfl ⟨(Nat.le_of_ble_eq_true rfl), (Nat.le_of_ble_eq_true rfl)⟩) 24 rfl 0 (Nat.le_of_ble_eq_true rfl) ?_
      refine g_topi (y := bI (decide (4 ≤ nI 0 ∧ nI 0 ≤ 8))) (isIn_c 4 8 (by decide) (by decide)) ?_
      refine g_if_eq hC dX2_isTransmitter_24 31 rfl 27 rfl (fun c_2 => ?_) (fun c_2 => ?_)
      · replace c_2 := bId_0 c_2
        refine g_iconst hC dX2_isTransmitter_31 ki_0 32 rfl ?_
        exact g_zret (v := 0) hC (by decide) (fun k9 hk9 => ⟨(bI_nd (fun q => absurd q.2 (by decide))), rfl, Nat.le_zero.mp hk9⟩) dX2_isTransmitter_32 (Nat.le_of_ble_eq_true rfl) (Nat.le_of_ble_eq_true rfl)
      · replace c_2 := bId_1 c_2
        exact absurd c_2 (by decide)
    · refine g_calliP (g_U (n := 0) (As := []) (rest := []) hC ⟨q1105, q1109, q1117, q109, q1118, (Or.inl rfl), by decide +kernel⟩ q2327 (show gOf G s _ "ArbitratedBus$Phase$2" (gph G 1) from gOf.ph hC.K (by decide)) (met_ordinal l G M 1 hph) ⟨rfl, rfl⟩ ⟨(Nat.le_of_ble_eq_true rfl), (Nat.le_of_ble_eq_true rfl)⟩ rfl (Nat.le_of_ble_eq_true rfl) dX2_isTransmitter_11 rfl ⟨(Nat.le_of_ble_eq_true rfl), (Nat.le_of_ble_eq_true rfl)⟩) 14 rfl 0 (Nat.le_of_ble_eq_true rfl) ?_
      refine g_i2l hC dX2_isTransmitter_14 15 rfl ?_
      refine g_ldc2 hC q2328 dX2_isTransmitter_15 18 rfl ?_
      refine g_ldc2 hC q2329 dX2_isTransmitter_18 21 rfl ?_
      refine g_calliP (g_SN (As := [.long (Int32.toInt64 (nI 1)), .long 4, .long 8]) (rest := []) hC msX0_isIn q2330 (met_isIn l G M (Int32.toInt64 (nI 1)) 4 8) ⟨rfl, rfl⟩ ⟨(Nat.le_of_ble_eq_true rfl), (Nat.le_of_ble_eq_true rfl)⟩ rfl (Nat.le_of_ble_eq_true rfl) dX2_isTransmitter_21 rfl ⟨(Nat.le_of_ble_eq_true rfl), (Nat.le_of_ble_eq_true rfl)⟩) 24 rfl 0 (Nat.le_of_ble_eq_true rfl) ?_
      refine g_topi (y := bI (decide (4 ≤ nI 1 ∧ nI 1 ≤ 8))) (isIn_c 4 8 (by decide) (by decide)) ?_
      refine g_if_eq hC dX2_isTransmitter_24 31 rfl 27 rfl (fun c_3 => ?_) (fun c_3 => ?_)
      · replace c_3 := bId_0 c_3
        refine g_iconst hC dX2_isTransmitter_31 ki_0 32 rfl ?_
        exact g_zret (v := 0) hC (by decide) (fun k9 hk9 => ⟨(bI_nd (fun q => absurd q.2 (by decide))), rfl, Nat.le_zero.mp hk9⟩) dX2_isTransmitter_32 (Nat.le_of_ble_eq_true rfl) (Nat.le_of_ble_eq_true rfl)
      · replace c_3 := bId_1 c_3
        exact absurd c_3 (by decide)
    · refine g_calliP (g_U (n := 0) (As := []) (rest := []) hC ⟨q1105, q1110, q1117, q109, q1118, (Or.inl rfl), by decide +kernel⟩ q2327 (show gOf G s _ "ArbitratedBus$Phase$3" (gph G 2) from gOf.ph hC.K (by decide)) (met_ordinal l G M 2 hph) ⟨rfl, rfl⟩ ⟨(Nat.le_of_ble_eq_true rfl), (Nat.le_of_ble_eq_true rfl)⟩ rfl (Nat.le_of_ble_eq_true rfl) dX2_isTransmitter_11 rfl ⟨(Nat.le_of_ble_eq_true rfl), (Nat.le_of_ble_eq_true rfl)⟩) 14 rfl 0 (Nat.le_of_ble_eq_true rfl) ?_
      refine g_i2l hC dX2_isTransmitter_14 15 rfl ?_
      refine g_ldc2 hC q2328 dX2_isTransmitter_15 18 rfl ?_
      refine g_ldc2 hC q2329 dX2_isTransmitter_18 21 rfl ?_
      refine g_calliP (g_SN (As := [.long (Int32.toInt64 (nI 2)), .long 4, .long 8]) (rest := []) hC msX0_isIn q2330 (met_isIn l G M (Int32.toInt64 (nI 2)) 4 8) ⟨rfl, rfl⟩ ⟨(Nat.le_of_ble_eq_true rfl), (Nat.le_of_ble_eq_true rfl)⟩ rfl (Nat.le_of_ble_eq_true rfl) dX2_isTransmitter_21 rfl ⟨(Nat.le_of_ble_eq_true rfl), (Nat.le_of_ble_eq_true rfl)⟩) 24 rfl 0 (Nat.le_of_ble_eq_true rfl) ?_
      refine g_topi (y := bI (decide (4 ≤ nI 2 ∧ nI 2 ≤ 8))) (isIn_c 4 8 (by decide) (by decide)) ?_
      refine g_if_eq hC dX2_isTransmitter_24 31 rfl 27 rfl (fun c_4 => ?_) (fun c_4 => ?_)
      · replace c_4 := bId_0 c_4
        refine g_iconst hC dX2_isTransmitter_31 ki_0 32 rfl ?_
        exact g_zret (v := 0) hC (by decide) (fun k9 hk9 => ⟨(bI_nd (fun q => absurd q.2 (by decide))), rfl, Nat.le_zero.mp hk9⟩) dX2_isTransmitter_32 (Nat.le_of_ble_eq_true rfl) (Nat.le_of_ble_eq_true rfl)
      · replace c_4 := bId_1 c_4
        exact absurd c_4 (by decide)
    · refine g_calliP (g_U (n := 0) (As := []) (rest := []) hC ⟨q1105, q1111, q1117, q109, q1118, (Or.inl rfl), by decide +kernel⟩ q2327 (show gOf G s _ "ArbitratedBus$Phase$4" (gph G 3) from gOf.ph hC.K (by decide)) (met_ordinal l G M 3 hph) ⟨rfl, rfl⟩ ⟨(Nat.le_of_ble_eq_true rfl), (Nat.le_of_ble_eq_true rfl)⟩ rfl (Nat.le_of_ble_eq_true rfl) dX2_isTransmitter_11 rfl ⟨(Nat.le_of_ble_eq_true rfl), (Nat.le_of_ble_eq_true rfl)⟩) 14 rfl 0 (Nat.le_of_ble_eq_true rfl) ?_
      refine g_i2l hC dX2_isTransmitter_14 15 rfl ?_
      refine g_ldc2 hC q2328 dX2_isTransmitter_15 18 rfl ?_
      refine g_ldc2 hC q2329 dX2_isTransmitter_18 21 rfl ?_
      refine g_calliP (g_SN (As := [.long (Int32.toInt64 (nI 3)), .long 4, .long 8]) (rest := []) hC msX0_isIn q2330 (met_isIn l G M (Int32.toInt64 (nI 3)) 4 8) ⟨rfl, rfl⟩ ⟨(Nat.le_of_ble_eq_true rfl), (Nat.le_of_ble_eq_true rfl)⟩ rfl (Nat.le_of_ble_eq_true rfl) dX2_isTransmitter_21 rfl ⟨(Nat.le_of_ble_eq_true rfl), (Nat.le_of_ble_eq_true rfl)⟩) 24 rfl 0 (Nat.le_of_ble_eq_true rfl) ?_
      refine g_topi (y := bI (decide (4 ≤ nI 3 ∧ nI 3 ≤ 8))) (isIn_c 4 8 (by decide) (by decide)) ?_
      refine g_if_eq hC dX2_isTransmitter_24 31 rfl 27 rfl (fun c_5 => ?_) (fun c_5 => ?_)
      · replace c_5 := bId_0 c_5
        refine g_iconst hC dX2_isTransmitter_31 ki_0 32 rfl ?_
        exact g_zret (v := 0) hC (by decide) (fun k9 hk9 => ⟨(bI_nd (fun q => absurd q.2 (by decide))), rfl, Nat.le_zero.mp hk9⟩) dX2_isTransmitter_32 (Nat.le_of_ble_eq_true rfl) (Nat.le_of_ble_eq_true rfl)
      · replace c_5 := bId_1 c_5
        exact absurd c_5 (by decide)
    · refine g_calliP (g_U (n := 0) (As := []) (rest := []) hC ⟨q1105, q1112, q1117, q109, q1118, (Or.inl rfl), by decide +kernel⟩ q2327 (show gOf G s _ "ArbitratedBus$Phase$5" (gph G 4) from gOf.ph hC.K (by decide)) (met_ordinal l G M 4 hph) ⟨rfl, rfl⟩ ⟨(Nat.le_of_ble_eq_true rfl), (Nat.le_of_ble_eq_true rfl)⟩ rfl (Nat.le_of_ble_eq_true rfl) dX2_isTransmitter_11 rfl ⟨(Nat.le_of_ble_eq_true rfl), (Nat.le_of_ble_eq_true rfl)⟩) 14 rfl 0 (Nat.le_of_ble_eq_true rfl) ?_
      refine g_i2l hC dX2_isTransmitter_14 15 rfl ?_
      refine g_ldc2 hC q2328 dX2_isTransmitter_15 18 rfl ?_
      refine g_ldc2 hC q2329 dX2_isTransmitter_18 21 rfl ?_
      refine g_calliP (g_SN (As := [.long (Int32.toInt64 (nI 4)), .long 4, .long 8]) (rest := []) hC msX0_isIn q2330 (met_isIn l G M (Int32.toInt64 (nI 4)) 4 8) ⟨rfl, rfl⟩ ⟨(Nat.le_of_ble_eq_true rfl), (Nat.le_of_ble_eq_true rfl)⟩ rfl (Nat.le_of_ble_eq_true rfl) dX2_isTransmitter_21 rfl ⟨(Nat.le_of_ble_eq_true rfl), (Nat.le_of_ble_eq_true rfl)⟩) 24 rfl 0 (Nat.le_of_ble_eq_true rfl) ?_
      refine g_topi (y := bI (decide (4 ≤ nI 4 ∧ nI 4 ≤ 8))) (isIn_c 4 8 (by decide) (by decide)) ?_
      refine g_if_eq hC dX2_isTransmitter_24 31 rfl 27 rfl (fun c_6 => ?_) (fun c_6 => ?_)
      · replace c_6 := bId_0 c_6
        exact absurd c_6 (by decide)
      · replace c_6 := bId_1 c_6
        refine g_iconst hC dX2_isTransmitter_27 ki_1 28 rfl ?_
        refine g_goto hC dX2_isTransmitter_28 32 rfl ?_
        exact g_zret (v := 1) hC (by decide) (fun k9 hk9 => ⟨(bI_d ⟨c_1, by decide, by decide⟩), rfl, Nat.le_zero.mp hk9⟩) dX2_isTransmitter_32 (Nat.le_of_ble_eq_true rfl) (Nat.le_of_ble_eq_true rfl)
    · refine g_calliP (g_U (n := 0) (As := []) (rest := []) hC ⟨q1105, q1113, q1117, q109, q1118, (Or.inl rfl), by decide +kernel⟩ q2327 (show gOf G s _ "ArbitratedBus$Phase$6" (gph G 5) from gOf.ph hC.K (by decide)) (met_ordinal l G M 5 hph) ⟨rfl, rfl⟩ ⟨(Nat.le_of_ble_eq_true rfl), (Nat.le_of_ble_eq_true rfl)⟩ rfl (Nat.le_of_ble_eq_true rfl) dX2_isTransmitter_11 rfl ⟨(Nat.le_of_ble_eq_true rfl), (Nat.le_of_ble_eq_true rfl)⟩) 14 rfl 0 (Nat.le_of_ble_eq_true rfl) ?_
      refine g_i2l hC dX2_isTransmitter_14 15 rfl ?_
      refine g_ldc2 hC q2328 dX2_isTransmitter_15 18 rfl ?_
      refine g_ldc2 hC q2329 dX2_isTransmitter_18 21 rfl ?_
      refine g_calliP (g_SN (As := [.long (Int32.toInt64 (nI 5)), .long 4, .long 8]) (rest := []) hC msX0_isIn q2330 (met_isIn l G M (Int32.toInt64 (nI 5)) 4 8) ⟨rfl, rfl⟩ ⟨(Nat.le_of_ble_eq_true rfl), (Nat.le_of_ble_eq_true rfl)⟩ rfl (Nat.le_of_ble_eq_true rfl) dX2_isTransmitter_21 rfl ⟨(Nat.le_of_ble_eq_true rfl), (Nat.le_of_ble_eq_true rfl)⟩) 24 rfl 0 (Nat.le_of_ble_eq_true rfl) ?_
      refine g_topi (y := bI (decide (4 ≤ nI 5 ∧ nI 5 ≤ 8))) (isIn_c 4 8 (by decide) (by decide)) ?_
      refine g_if_eq hC dX2_isTransmitter_24 31 rfl 27 rfl (fun c_7 => ?_) (fun c_7 => ?_)
      · replace c_7 := bId_0 c_7
        exact absurd c_7 (by decide)
      · replace c_7 := bId_1 c_7
        refine g_iconst hC dX2_isTransmitter_27 ki_1 28 rfl ?_
        refine g_goto hC dX2_isTransmitter_28 32 rfl ?_
        exact g_zret (v := 1) hC (by decide) (fun k9 hk9 => ⟨(bI_d ⟨c_1, by decide, by decide⟩), rfl, Nat.le_zero.mp hk9⟩) dX2_isTransmitter_32 (Nat.le_of_ble_eq_true rfl) (Nat.le_of_ble_eq_true rfl)
    · refine g_calliP (g_U (n := 0) (As := []) (rest := []) hC ⟨q1105, q1114, q1117, q109, q1118, (Or.inl rfl), by decide +kernel⟩ q2327 (show gOf G s _ "ArbitratedBus$Phase$7" (gph G 6) from gOf.ph hC.K (by decide)) (met_ordinal l G M 6 hph) ⟨rfl, rfl⟩ ⟨(Nat.le_of_ble_eq_true rfl), (Nat.le_of_ble_eq_true rfl)⟩ rfl (Nat.le_of_ble_eq_true rfl) dX2_isTransmitter_11 rfl ⟨(Nat.le_of_ble_eq_true rfl), (Nat.le_of_ble_eq_true rfl)⟩) 14 rfl 0 (Nat.le_of_ble_eq_true rfl) ?_
      refine g_i2l hC dX2_isTransmitter_14 15 rfl ?_
      refine g_ldc2 hC q2328 dX2_isTransmitter_15 18 rfl ?_
      refine g_ldc2 hC q2329 dX2_isTransmitter_18 21 rfl ?_
      refine g_calliP (g_SN (As := [.long (Int32.toInt64 (nI 6)), .long 4, .long 8]) (rest := []) hC msX0_isIn q2330 (met_isIn l G M (Int32.toInt64 (nI 6)) 4 8) ⟨rfl, rfl⟩ ⟨(Nat.le_of_ble_eq_true rfl), (Nat.le_of_ble_eq_true rfl)⟩ rfl (Nat.le_of_ble_eq_true rfl) dX2_isTransmitter_21 rfl ⟨(Nat.le_of_ble_eq_true rfl), (Nat.le_of_ble_eq_true rfl)⟩) 24 rfl 0 (Nat.le_of_ble_eq_true rfl) ?_
      refine g_topi (y := bI (decide (4 ≤ nI 6 ∧ nI 6 ≤ 8))) (isIn_c 4 8 (by decide) (by decide)) ?_
      refine g_if_eq hC dX2_isTransmitter_24 31 rfl 27 rfl (fun c_8 => ?_) (fun c_8 => ?_)
      · replace c_8 := bId_0 c_8
        exact absurd c_8 (by decide)
      · replace c_8 := bId_1 c_8
        refine g_iconst hC dX2_isTransmitter_27 ki_1 28 rfl ?_
        refine g_goto hC dX2_isTransmitter_28 32 rfl ?_
        exact g_zret (v := 1) hC (by decide) (fun k9 hk9 => ⟨(bI_d ⟨c_1, by decide, by decide⟩), rfl, Nat.le_zero.mp hk9⟩) dX2_isTransmitter_32 (Nat.le_of_ble_eq_true rfl) (Nat.le_of_ble_eq_true rfl)
    · refine g_calliP (g_U (n := 0) (As := []) (rest := []) hC ⟨q1105, q1115, q1117, q109, q1118, (Or.inl rfl), by decide +kernel⟩ q2327 (show gOf G s _ "ArbitratedBus$Phase$8" (gph G 7) from gOf.ph hC.K (by decide)) (met_ordinal l G M 7 hph) ⟨rfl, rfl⟩ ⟨(Nat.le_of_ble_eq_true rfl), (Nat.le_of_ble_eq_true rfl)⟩ rfl (Nat.le_of_ble_eq_true rfl) dX2_isTransmitter_11 rfl ⟨(Nat.le_of_ble_eq_true rfl), (Nat.le_of_ble_eq_true rfl)⟩) 14 rfl 0 (Nat.le_of_ble_eq_true rfl) ?_
      refine g_i2l hC dX2_isTransmitter_14 15 rfl ?_
      refine g_ldc2 hC q2328 dX2_isTransmitter_15 18 rfl ?_
      refine g_ldc2 hC q2329 dX2_isTransmitter_18 21 rfl ?_
      refine g_calliP (g_SN (As := [.long (Int32.toInt64 (nI 7)), .long 4, .long 8]) (rest := []) hC msX0_isIn q2330 (met_isIn l G M (Int32.toInt64 (nI 7)) 4 8) ⟨rfl, rfl⟩ ⟨(Nat.le_of_ble_eq_true rfl), (Nat.le_of_ble_eq_true rfl)⟩ rfl (Nat.le_of_ble_eq_true rfl) dX2_isTransmitter_21 rfl ⟨(Nat.le_of_ble_eq_true rfl), (Nat.le_of_ble_eq_true rfl)⟩) 24 rfl 0 (Nat.le_of_ble_eq_true rfl) ?_
      refine g_topi (y := bI (decide (4 ≤ nI 7 ∧ nI 7 ≤ 8))) (isIn_c 4 8 (by decide) (by decide)) ?_
      refine g_if_eq hC dX2_isTransmitter_24 31 rfl 27 rfl (fun c_9 => ?_) (fun c_9 => ?_)
      · replace c_9 := bId_0 c_9
        exact absurd c_9 (by decide)
      · replace c_9 := bId_1 c_9
        refine g_iconst hC dX2_isTransmitter_27 ki_1 28 rfl ?_
        refine g_goto hC dX2_isTransmitter_28 32 rfl ?_
        exact g_zret (v := 1) hC (by decide) (fun k9 hk9 => ⟨(bI_d ⟨c_1, by decide, by decide⟩), rfl, Nat.le_zero.mp hk9⟩) dX2_isTransmitter_32 (Nat.le_of_ble_eq_true rfl) (Nat.le_of_ble_eq_true rfl)
    · refine g_calliP (g_U (n := 0) (As := []) (rest := []) hC ⟨q1105, q1116, q1117, q109, q1118, (Or.inl rfl), by decide +kernel⟩ q2327 (show gOf G s _ "ArbitratedBus$Phase$9" (gph G 8) from gOf.ph hC.K (by decide)) (met_ordinal l G M 8 hph) ⟨rfl, rfl⟩ ⟨(Nat.le_of_ble_eq_true rfl), (Nat.le_of_ble_eq_true rfl)⟩ rfl (Nat.le_of_ble_eq_true rfl) dX2_isTransmitter_11 rfl ⟨(Nat.le_of_ble_eq_true rfl), (Nat.le_of_ble_eq_true rfl)⟩) 14 rfl 0 (Nat.le_of_ble_eq_true rfl) ?_
      refine g_i2l hC dX2_isTransmitter_14 15 rfl ?_
      refine g_ldc2 hC q2328 dX2_isTransmitter_15 18 rfl ?_
      refine g_ldc2 hC q2329 dX2_isTransmitter_18 21 rfl ?_
      refine g_calliP (g_SN (As := [.long (Int32.toInt64 (nI 8)), .long 4, .long 8]) (rest := []) hC msX0_isIn q2330 (met_isIn l G M (Int32.toInt64 (nI 8)) 4 8) ⟨rfl, rfl⟩ ⟨(Nat.le_of_ble_eq_true rfl), (Nat.le_of_ble_eq_true rfl)⟩ rfl (Nat.le_of_ble_eq_true rfl) dX2_isTransmitter_21 rfl ⟨(Nat.le_of_ble_eq_true rfl), (Nat.le_of_ble_eq_true rfl)⟩) 24 rfl 0 (Nat.le_of_ble_eq_true rfl) ?_
      refine g_topi (y := bI (decide (4 ≤ nI 8 ∧ nI 8 ≤ 8))) (isIn_c 4 8 (by decide) (by decide)) ?_
      refine g_if_eq hC dX2_isTransmitter_24 31 rfl 27 rfl (fun c_10 => ?_) (fun c_10 => ?_)
      · replace c_10 := bId_0 c_10
        exact absurd c_10 (by decide)
      · replace c_10 := bId_1 c_10
        refine g_iconst hC dX2_isTransmitter_27 ki_1 28 rfl ?_
        refine g_goto hC dX2_isTransmitter_28 32 rfl ?_
        exact g_zret (v := 1) hC (by decide) (fun k9 hk9 => ⟨(bI_d ⟨c_1, by decide, by decide⟩), rfl, Nat.le_zero.mp hk9⟩) dX2_isTransmitter_32 (Nat.le_of_ble_eq_true rfl) (Nat.le_of_ble_eq_true rfl)
    · refine g_calliP (g_U (n := 0) (As := []) (rest := []) hC ⟨q1105, q1108, q1117, q109, q1118, (Or.inl rfl), by decide +kernel⟩ q2327 (show gOf G s _ "ArbitratedBus$Phase$10" (gph G 9) from gOf.ph hC.K (by decide)) (met_ordinal l G M 9 hph) ⟨rfl, rfl⟩ ⟨(Nat.le_of_ble_eq_true rfl), (Nat.le_of_ble_eq_true rfl)⟩ rfl (Nat.le_of_ble_eq_true rfl) dX2_isTransmitter_11 rfl ⟨(Nat.le_of_ble_eq_true rfl), (Nat.le_of_ble_eq_true rfl)⟩) 14 rfl 0 (Nat.le_of_ble_eq_true rfl) ?_
      refine g_i2l hC dX2_isTransmitter_14 15 rfl ?_
      refine g_ldc2 hC q2328 dX2_isTransmitter_15 18 rfl ?_
      refine g_ldc2 hC q2329 dX2_isTransmitter_18 21 rfl ?_
      refine g_calliP (g_SN (As := [.long (Int32.toInt64 (nI 9)), .long 4, .long 8]) (rest := []) hC msX0_isIn q2330 (met_isIn l G M (Int32.toInt64 (nI 9)) 4 8) ⟨rfl, rfl⟩ ⟨(Nat.le_of_ble_eq_true rfl), (Nat.le_of_ble_eq_true rfl)⟩ rfl (Nat.le_of_ble_eq_true rfl) dX2_isTransmitter_21 rfl ⟨(Nat.le_of_ble_eq_true rfl), (Nat.le_of_ble_eq_true rfl)⟩) 24 rfl 0 (Nat.le_of_ble_eq_true rfl) ?_
      refine g_topi (y := bI (decide (4 ≤ nI 9 ∧ nI 9 ≤ 8))) (isIn_c 4 8 (by decide) (by decide)) ?_
      refine g_if_eq hC dX2_isTransmitter_24 31 rfl 27 rfl (fun c_11 => ?_) (fun c_11 => ?_)
      · replace c_11 := bId_0 c_11
        refine g_iconst hC dX2_isTransmitter_31 ki_0 32 rfl ?_
        exact g_zret (v := 0) hC (by decide) (fun k9 hk9 => ⟨(bI_nd (fun q => absurd q.2 (by decide))), rfl, Nat.le_zero.mp hk9⟩) dX2_isTransmitter_32 (Nat.le_of_ble_eq_true rfl) (Nat.le_of_ble_eq_true rfl)
      · replace c_11 := bId_1 c_11
        exact absurd c_11 (by decide)
