/-! the wire: Wire$1's constructor, hasNext, next, iterator; bits, bit -/
set_option maxRecDepth 100000
set_option maxHeartbeats 4000000 in
theorem met_Wi_init (l : Launch) (G : gG) (M : gM) (it : Nat) (wa : Nat)  (hM_0 : M it = some ((9, 11), .inr (12, [.null, .int 0, .int 0, .null]))) : Met l yX16_init (ws_ yX16_init cX16_init 2 none) ({ frames := 2, cells := 1, slots := 2, locals := 32 }) (gPc G [.ref it, .ref wa] M) (gQv G (fun M9 k9 => ∃ sa : Nat, M9 it = some ((9, 11), .inr (12, [.ref sa, .int 0, .int 0, .ref wa])) ∧ M9 sa = some ((9, 12), .inr (3, [.int (-1), .int 0])) ∧ gFr (gL [it]) M M9 ∧ k9 ≤ 1)) 1 2 (gA G) := by
  refine gMet [(0, .ref it), (1, .ref wa)] (by decide) (Nat.le_of_ble_eq_true rfl) rfl ?_
  intro p e s m below meth c hC
  refine g_aload_n hC dX16_init_0 0 rfl gRef_r 1 rfl ?_
  refine g_aload_n hC dX16_init_1 1 rfl gRef_r 2 rfl ?_
  refine g_putF hC cI12 hM_0 3 (Nat.le_of_ble_eq_true rfl) q2592 rfl rfl rfl rfl (Nat.le_of_ble_eq_true rfl) dX16_init_2 (fs' := [.null, .int 0, .int 0, .ref wa]) rfl 5 rfl (fun M1 hU2 => ?_)
  refine g_aload_n hC dX16_init_5 0 rfl gRef_r 6 rfl ?_
  refine g_objInit hC q2586 q176 q177 dX16_init_6 (Nat.le_of_ble_eq_true rfl) (Nat.le_of_ble_eq_true rfl) 9 rfl ?_
  refine g_aload_n hC dX16_init_9 0 rfl gRef_r 10 rfl ?_
  refine g_new hC cI3 q2587 q2141 q111 df3 (9, 12) (Nat.le_of_ble_eq_true rfl) (Nat.le_of_ble_eq_true rfl) 1 (Nat.le_of_ble_eq_true rfl) 2 (Nat.le_of_ble_eq_true rfl) dX16_init_10 13 rfl (fun a3 M4 hN5 => ?_)
  refine g_dup hC dX16_init_13 rfl 14 rfl ?_
  refine g_callv (g_IN (As := []) (rest := [.ref a3, .ref it]) hC miX4_init q2588 (met_St_init l G M4 a3 (9, 12) hN5.2.1) ⟨rfl, rfl⟩ ⟨(Nat.le_of_ble_eq_true rfl), (Nat.le_of_ble_eq_true rfl)⟩ rfl (Nat.le_of_ble_eq_true rfl) dX16_init_14 rfl ⟨(Nat.le_of_ble_eq_true rfl), (Nat.le_of_ble_eq_true rfl)⟩) 1 (Nat.le_of_ble_eq_true rfl) 2 (Nat.le_of_ble_eq_true rfl) 17 rfl (fun M6 k7 hp8 => ?_)
  obtain ⟨hc10, hF11, hk12⟩ := hp8
  have hH13 := (hF11 _ _ _ (hN5.n hU2.1) (gno (hN5.ne hU2.1) gno0))
  refine g_putF hC cI12 hH13 0 (Nat.le_of_ble_eq_true rfl) q2589 rfl rfl rfl rfl (Nat.le_of_ble_eq_true rfl) dX16_init_17 (fs' := [.ref a3, .int 0, .int 0, .ref wa]) rfl 20 rfl (fun M14 hU15 => ?_)
  exact g_vret hC (fun k9 hk9 => ⟨a3, hU15.1, (hU15.n (Ne.symm (hN5.ne hU2.1)) hc10), ((((gFr.refl.up hU2 hM_0 (by simp)).nw hN5).trf hF11 (fun b t e hb hn => (gno (hN5.ne ((gFr.refl.up hU2 hM_0 (by simp)) b t e hb hn)) gno0))).up hU15 hH13 (by simp)), (by first | exact Nat.le_zero.mp hk9 | omega)⟩) dX16_init_20 (Nat.le_of_ble_eq_true rfl) (Nat.le_of_ble_eq_true rfl)
set_option maxHeartbeats 4000000 in
theorem met_W_iterator (l : Launch) (G : gG) (M : gM) (wa : Nat) (fa : Nat)  (hM_0 : M wa = some ((9, 10), .inr (11, [.ref fa]))) : Met l yX15_iterator (ws_ yX15_iterator cX15_iterator 1 (some (.object "java/util/Iterator"))) ({ frames := 3, cells := 2, slots := 6, locals := 53 }) (gPc G [.ref wa] M) (gQq G (fun r9 M9 k9 => ∃ it : Nat, ∃ sa : Nat, r9 = (some it) ∧ M9 it = some ((9, 11), .inr (12, [.ref sa, .int (nI 0), .int (nI 0), .ref wa])) ∧ M9 sa = some ((9, 12), .inr (3, [.int (-1), .int (nI 0)])) ∧ gFr (gL []) M M9 ∧ k9 ≤ 2)) 2 6 (gA G) := by
  refine gMet [(0, .ref wa)] (by decide) (Nat.le_of_ble_eq_true rfl) rfl ?_
  intro p e s m below meth c hC
  refine g_new hC cI12 q2582 q1272 q164 df12 (9, 11) (Nat.le_of_ble_eq_true rfl) (Nat.le_of_ble_eq_true rfl) 1 (Nat.le_of_ble_eq_true rfl) 4 (Nat.le_of_ble_eq_true rfl) dX15_iterator_0 3 rfl (fun a1 M2 hN3 => ?_)
  refine g_dup hC dX15_iterator_3 rfl 4 rfl ?_
  refine g_aload_n hC dX15_iterator_4 0 rfl gRef_r 5 rfl ?_
  refine g_callv (g_I (As := [.ref wa]) (rest := [.ref a1]) hC miX16_init q2583 (met_Wi_init l G M2 a1 wa hN3.2.1) ⟨rfl, rfl⟩ ⟨(Nat.le_of_ble_eq_true rfl), (Nat.le_of_ble_eq_true rfl)⟩ rfl (Nat.le_of_ble_eq_true rfl) dX15_iterator_5 rfl ⟨(Nat.le_of_ble_eq_true rfl), (Nat.le_of_ble_eq_true rfl)⟩) 2 (Nat.le_of_ble_eq_true rfl) 6 (Nat.le_of_ble_eq_true rfl) 8 rfl (fun M4 k5 hp6 => ?_)
  obtain ⟨sa_8, hc9, hc10, hF11, hk12⟩ := hp6
  exact g_aret (v := some a1) hC (by first | exact Or.inl ⟨_, rfl⟩ | exact Or.inr ⟨_, rfl⟩) (fun k9 hk9 => ⟨a1, sa_8, rfl, (by rw [hc9]; all_goals (first | rfl | (simp only [if_true, if_false, true_and, and_true, false_and, and_false, true_or, or_true, false_or, or_false, not_true_eq_false, not_false_eq_true, reduceIte, decide_true, decide_false, Bool.false_eq_true]; done) | (simp only [if_true, if_false, true_and, and_true, false_and, and_false, true_or, or_true, false_or, or_false, not_true_eq_false, not_false_eq_true, reduceIte, decide_true, decide_false, Bool.false_eq_true]; rfl) | (simp only [if_true, if_false, true_and, and_true, false_and, and_false, true_or, or_true, false_or, or_false, not_true_eq_false, not_false_eq_true, reduceIte, decide_true, decide_false, Bool.false_eq_true]; done) | (simp only []; simp only [if_true, if_false, true_and, and_true, false_and, and_false, true_or, or_true, false_or, or_false, not_true_eq_false, not_false_eq_true, reduceIte, decide_true, decide_false, Bool.false_eq_true]; done) | (simp only []; simp only [if_true, if_false, true_and, and_true, false_and, and_false, true_or, or_true, false_or, or_false, not_true_eq_false, not_false_eq_true, reduceIte, decide_true, decide_false, Bool.false_eq_true]; done) | (simp only []; simp only [if_true, if_false, true_and, and_true, false_and, and_false, true_or, or_true, false_or, or_false, not_true_eq_false, not_false_eq_true, reduceIte, decide_true, decide_false, Bool.false_eq_true]; simp only []; done) | (simp only [if_true, if_false, true_and, and_true, false_and, and_false, true_or, or_true, false_or, or_false, not_true_eq_false, not_false_eq_true, reduceIte, decide_true, decide_false, Bool.false_eq_true]; rfl) | (simp only []; simp only [if_true, if_false, true_and, and_true, false_and, and_false, true_or, or_true, false_or, or_false, not_true_eq_false, not_false_eq_true, reduceIte, decide_true, decide_false, Bool.false_eq_true]; rfl) | (simp only []; rfl) | (simp only [if_true, if_false, true_and, and_true, false_and, and_false, true_or, or_true, false_or, or_false, not_true_eq_false, not_false_eq_true, reduceIte, decide_true, decide_false, Bool.false_eq_true]; rfl) | (simp_all []; done))), (by rw [hc10]; all_goals (first | rfl | (simp only [if_true, if_false, true_and, and_true, false_and, and_false, true_or, or_true, false_or, or_false, not_true_eq_false, not_false_eq_true, reduceIte, decide_true, decide_false, Bool.false_eq_true]; done) | (simp only [if_true, if_false, true_and, and_true, false_and, and_false, true_or, or_true, false_or, or_false, not_true_eq_false, not_false_eq_true, reduceIte, decide_true, decide_false, Bool.false_eq_true]; rfl) | (simp only [if_true, if_false, true_and, and_true, false_and, and_false, true_or, or_true, false_or, or_false, not_true_eq_false, not_false_eq_true, reduceIte, decide_true, decide_false, Bool.false_eq_true]; done) | (simp only []; simp only [if_true, if_false, true_and, and_true, false_and, and_false, true_or, or_true, false_or, or_false, not_true_eq_false, not_false_eq_true, reduceIte, decide_true, decide_false, Bool.false_eq_true]; done) | (simp only []; simp only [if_true, if_false, true_and, and_true, false_and, and_false, true_or, or_true, false_or, or_false, not_true_eq_false, not_false_eq_true, reduceIte, decide_true, decide_false, Bool.false_eq_true]; done) | (simp only []; simp only [if_true, if_false, true_and, and_true, false_and, and_false, true_or, or_true, false_or, or_false, not_true_eq_false, not_false_eq_true, reduceIte, decide_true, decide_false, Bool.false_eq_true]; simp only []; done) | (simp only [if_true, if_false, true_and, and_true, false_and, and_false, true_or, or_true, false_or, or_false, not_true_eq_false, not_false_eq_true, reduceIte, decide_true, decide_false, Bool.false_eq_true]; rfl) | (simp only []; simp only [if_true, if_false, true_and, and_true, false_and, and_false, true_or, or_true, false_or, or_false, not_true_eq_false, not_false_eq_true, reduceIte, decide_true, decide_false, Bool.false_eq_true]; rfl) | (simp only []; rfl) | (simp only [if_true, if_false, true_and, and_true, false_and, and_false, true_or, or_true, false_or, or_false, not_true_eq_false, not_false_eq_true, reduceIte, decide_true, decide_false, Bool.false_eq_true]; rfl) | (simp_all []; done))), ((gFr.refl.nw hN3).trf hF11 (fun b t e hb hn => (gno (hN3.ne (gFr.refl b t e hb hn)) gno0))), (by first | exact Nat.le_zero.mp hk9 | omega)⟩) dX15_iterator_8 (Nat.le_of_ble_eq_true rfl) (Nat.le_of_ble_eq_true rfl)
set_option maxHeartbeats 4000000 in
theorem met_Wi_hasNext (l : Launch) (G : gG) (M : gM) (it : Nat) (wa : Nat) (fa : Nat) (sa : Nat) (id : Int32) (rm : Bool) (ln : Nat) (da : Int32) (od : Int32) (pn : Nat) (tl : Nat) (la : Int32) (ru : Nat) (hln : ln ≤ 4) (hpn : pn ≤ 70) (hru : ru ≤ 5) (htl : tl ≤ 10) (hM_0 : M it = some ((9, 11), .inr (12, [.ref sa, .int (nI pn), .int (nI tl), .ref wa]))) (hM_1 : M wa = some ((9, 10), .inr (11, [.ref fa]))) (hM_2 : M fa = some ((0, 1), .inr (8, [.int id, .int (bI rm), .int (nI ln), .int da, .int od]))) (hM_3 : M sa = some ((9, 12), .inr (3, [.int la, .int (nI ru)]))) : Met l yX16_hasNext (ws_ yX16_hasNext cX16_hasNext 1 (some .boolean)) ({ frames := 3, cells := 0, slots := 0, locals := 60 }) (gPc G [.ref it] M) (gQi G (fun r9 M9 k9 => r9 = (bI (decide ((pn < byF rm ln + 34 ∨ ru = 5) ∨ tl < 10))) ∧ M9 = M ∧ k9 = 0)) 0 0 (gA G) := by
  refine gMet [(0, .ref it)] (by decide) (Nat.le_of_ble_eq_true rfl) rfl ?_
  intro p e s m below meth c hC
  refine g_aload_n hC dX16_hasNext_0 0 rfl gRef_r 1 rfl ?_
  refine g_calliP (g_V (As := []) (rest := []) hC mvX16_isStuffed q1269 (gOf.of hC.K cI12 hM_0) (met_Wi_isStuffed l G M it wa fa sa id rm ln da od pn tl la ru hln hpn hru htl hM_0 hM_1 hM_2 hM_3) ⟨rfl, rfl⟩ ⟨(Nat.le_of_ble_eq_true rfl), (Nat.le_of_ble_eq_true rfl)⟩ rfl (Nat.le_of_ble_eq_true rfl) dX16_hasNext_1 rfl ⟨(Nat.le_of_ble_eq_true rfl), (Nat.le_of_ble_eq_true rfl)⟩) 4 rfl 0 (Nat.le_of_ble_eq_true rfl) ?_
  refine g_if_ne hC dX16_hasNext_4 16 rfl 7 rfl (fun c_1 => ?_) (fun c_1 => ?_)
  · replace c_1 := bId_1 c_1
    refine g_iconst hC dX16_hasNext_16 ki_1 17 rfl ?_
    refine g_goto hC dX16_hasNext_17 21 rfl ?_
    exact g_zret (v := 1) hC (by decide) (fun k9 hk9 => ⟨(bI_d (by first | omega | simp_all | (simp_all; omega))), rfl, Nat.le_zero.mp hk9⟩) dX16_hasNext_21 (Nat.le_of_ble_eq_true rfl) (Nat.le_of_ble_eq_true rfl)
  · replace c_1 := bId_0 c_1
    refine g_aload_n hC dX16_hasNext_7 0 rfl gRef_r 8 rfl ?_
    refine g_get (v := .int (nI tl)) hC cI12 hM_0 2 (Nat.le_of_ble_eq_true rfl) q2591 rfl dX16_hasNext_8 11 rfl ?_
    refine g_bipush hC dX16_hasNext_11 kb_9 13 rfl ?_
    refine g_icmp_gt hC dX16_hasNext_13 20 rfl 16 rfl (fun c_2 => ?_) (fun c_2 => ?_)
    · replace c_2 : 9 < tl := nn_lt (by omega) (by omega) c_2
      refine g_iconst hC dX16_hasNext_20 ki_0 21 rfl ?_
      exact g_zret (v := 0) hC (by decide) (fun k9 hk9 => ⟨(bI_nd (by first | omega | simp_all | (simp_all; omega))), rfl, Nat.le_zero.mp hk9⟩) dX16_hasNext_21 (Nat.le_of_ble_eq_true rfl) (Nat.le_of_ble_eq_true rfl)
    · replace c_2 : tl ≤ 9 := nn_nlt (by omega) (by omega) c_2
      refine g_iconst hC dX16_hasNext_16 ki_1 17 rfl ?_
      refine g_goto hC dX16_hasNext_17 21 rfl ?_
      exact g_zret (v := 1) hC (by decide) (fun k9 hk9 => ⟨(bI_d (by first | omega | simp_all | (simp_all; omega))), rfl, Nat.le_zero.mp hk9⟩) dX16_hasNext_21 (Nat.le_of_ble_eq_true rfl) (Nat.le_of_ble_eq_true rfl)
theorem nI_ite1 {p : Prop} [Decidable p] {ru : Nat} : (if p then nI ru + 1 else 1) = nI (if p then ru + 1 else 1) := by
  split
  · exact nI_a (a := ru) (b := 1) rfl
  · rfl
theorem stf1 {la x : Int32} (h : la = 0 ∨ la = 1) : (if 1 - la = la then x else 1) = 1 := by
  rcases h with rfl | rfl <;> exact if_neg (by decide)
set_option maxHeartbeats 4000000 in
theorem met_Wi_next_t (l : Launch) (G : gG) (M : gM) (it : Nat) (wa : Nat) (fa : Nat) (sa : Nat) (id : Int32) (rm : Bool) (ln : Nat) (da : Int32) (od : Int32) (pn : Nat) (tl : Nat) (la : Int32) (ru : Nat) (hln : ln ≤ 4) (hpn : pn ≤ 70) (hru : ru ≤ 5) (htl : tl ≤ 10) (hs : ¬ (pn < byF rm ln + 34 ∨ ru = 5)) (hM_0 : M it = some ((9, 11), .inr (12, [.ref sa, .int (nI pn), .int (nI tl), .ref wa]))) (hM_1 : M wa = some ((9, 10), .inr (11, [.ref fa]))) (hM_2 : M fa = some ((0, 1), .inr (8, [.int id, .int (bI rm), .int (nI ln), .int da, .int od]))) (hM_3 : M sa = some ((9, 12), .inr (3, [.int la, .int (nI ru)]))) : Met l yX16_next_2 (ws_ yX16_next_2 cX16_next_2 2 (some (.object "java/lang/Integer"))) ({ frames := 4, cells := 1, slots := 1, locals := 84 }) (gPc G [.ref it] M) (gQq G (fun r9 M9 k9 => ∃ a9 : Nat, r9 = (some a9) ∧ M9 it = some ((9, 11), .inr (12, [.ref sa, .int (nI pn), .int (nI (tl + 1)), .ref wa])) ∧ gFr (gL [it]) M M9 ∧ gBox G M9 a9 1 ∧ k9 ≤ 1)) 1 1 (gA G) := by
  refine gMet [(0, .ref it)] (by decide) (Nat.le_of_ble_eq_true rfl) rfl ?_
  intro p e s m below meth c hC
  have hby := byF_le (rm := rm) hln
  have hru5 : nI ru = 5 ↔ ru = 5 := nI_eq (b := 5) (by omega) (by decide)
  refine g_aload_n hC dX16_next_2_0 0 rfl gRef_r 1 rfl ?_
  refine g_calliP (g_V (As := []) (rest := []) hC mvX16_isStuffed q1269 (gOf.of hC.K cI12 hM_0) (met_Wi_isStuffed l G M it wa fa sa id rm ln da od pn tl la ru hln hpn hru htl hM_0 hM_1 hM_2 hM_3) ⟨rfl, rfl⟩ ⟨(Nat.le_of_ble_eq_true rfl), (Nat.le_of_ble_eq_true rfl)⟩ rfl (Nat.le_of_ble_eq_true rfl) dX16_next_2_1 rfl ⟨(Nat.le_of_ble_eq_true rfl), (Nat.le_of_ble_eq_true rfl)⟩) 4 rfl 0 (Nat.le_of_ble_eq_true rfl) ?_
  refine g_if_ne hC dX16_next_2_4 22 rfl 7 rfl (fun c_1 => ?_) (fun c_1 => ?_)
  · replace c_1 := bId_1 c_1
    exact absurd c_1 (by first | omega | (rw [hru5]; omega) | (simp only [hru5] at *; first | omega | decide | simp_all) | simp_all)
  · replace c_1 := bId_0 c_1
    refine g_aload_n hC dX16_next_2_7 0 rfl gRef_r 8 rfl ?_
    refine g_dup hC dX16_next_2_8 rfl 9 rfl ?_
    refine g_get (v := .int (nI tl)) hC cI12 hM_0 2 (Nat.le_of_ble_eq_true rfl) q2591 rfl dX16_next_2_9 12 rfl ?_
    refine g_iconst hC dX16_next_2_12 ki_1 13 rfl ?_
    refine g_iadd hC dX16_next_2_13 14 rfl ?_
    refine g_topi (y := nI (tl + 1)) (nI_a (a := tl) (b := 1) (c := (tl + 1)) (by omega)) ?_
    refine g_put hC cI12 hM_0 2 (Nat.le_of_ble_eq_true rfl) q2591 rfl rfl rfl (Nat.le_of_ble_eq_true rfl) dX16_next_2_14 (fs' := [.ref sa, .int (nI pn), .int (nI (tl + 1)), .ref wa]) rfl 17 rfl (fun M2 hU3 => ?_)
    refine g_iconst hC dX16_next_2_17 ki_1 18 rfl ?_
    refine g_callq (g_S (As := [.int 1]) (rest := []) hC msJ11_valueOf q1353 (met_valueOf l G M2 1) ⟨rfl, rfl⟩ ⟨(Nat.le_of_ble_eq_true rfl), (Nat.le_of_ble_eq_true rfl)⟩ rfl (Nat.le_of_ble_eq_true rfl) dX16_next_2_18 rfl ⟨(Nat.le_of_ble_eq_true rfl), (Nat.le_of_ble_eq_true rfl)⟩) 1 (Nat.le_of_ble_eq_true rfl) 1 (Nat.le_of_ble_eq_true rfl) 21 rfl (fun r7 M4 k5 hp6 => ?_)
    obtain ⟨a_8, rfl, hF9, hq10, hk11⟩ := hp6
    exact g_aret (v := some a_8) hC (by first | exact Or.inl ⟨_, rfl⟩ | exact Or.inr ⟨_, rfl⟩) (fun k9 hk9 => ⟨a_8, rfl, (hF9 _ _ _ hU3.1 gno0), ((gFr.refl.up hU3 hM_0 (by simp)).trans (hF9.mono (by intro b t hb; exact absurd hb List.not_mem_nil))), hq10, (by first | exact Nat.le_zero.mp hk9 | omega)⟩) dX16_next_2_21 (Nat.le_of_ble_eq_true rfl) (Nat.le_of_ble_eq_true rfl)
set_option maxHeartbeats 4000000 in
theorem met_Wi_next_5 (l : Launch) (G : gG) (M : gM) (it : Nat) (wa : Nat) (fa : Nat) (sa : Nat) (id : Int32) (rm : Bool) (ln : Nat) (da : Int32) (od : Int32) (pn : Nat) (tl : Nat) (la : Int32) (ru : Nat) (hln : ln ≤ 4) (hpn : pn ≤ 70) (hru : ru ≤ 5) (htl : tl ≤ 10) (hs : ru = 5) (hla : la = 0 ∨ la = 1) (hM_0 : M it = some ((9, 11), .inr (12, [.ref sa, .int (nI pn), .int (nI tl), .ref wa]))) (hM_1 : M wa = some ((9, 10), .inr (11, [.ref fa]))) (hM_2 : M fa = some ((0, 1), .inr (8, [.int id, .int (bI rm), .int (nI ln), .int da, .int od]))) (hM_3 : M sa = some ((9, 12), .inr (3, [.int la, .int (nI ru)]))) : Met l yX16_next_2 (ws_ yX16_next_2 cX16_next_2 2 (some (.object "java/lang/Integer"))) ({ frames := 4, cells := 1, slots := 1, locals := 84 }) (gPc G [.ref it] M) (gQq G (fun r9 M9 k9 => ∃ a9 : Nat, r9 = (some a9) ∧ M9 it = some ((9, 11), .inr (12, [.ref sa, .int (nI pn), .int (nI tl), .ref wa])) ∧ M9 sa = some ((9, 12), .inr (3, [.int (1 - la), .int (nI 1)])) ∧ gFr (gL [it, sa]) M M9 ∧ gBox G M9 a9 (1 - la) ∧ k9 ≤ 1)) 1 1 (gA G) := by
  refine gMet [(0, .ref it)] (by decide) (Nat.le_of_ble_eq_true rfl) rfl ?_
  intro p e s m below meth c hC
  have hby := byF_le (rm := rm) hln
  have hru5 : nI ru = 5 ↔ ru = 5 := nI_eq (b := 5) (by omega) (by decide)
  refine g_aload_n hC dX16_next_2_0 0 rfl gRef_r 1 rfl ?_
  refine g_calliP (g_V (As := []) (rest := []) hC mvX16_isStuffed q1269 (gOf.of hC.K cI12 hM_0) (met_Wi_isStuffed l G M it wa fa sa id rm ln da od pn tl la ru hln hpn hru htl hM_0 hM_1 hM_2 hM_3) ⟨rfl, rfl⟩ ⟨(Nat.le_of_ble_eq_true rfl), (Nat.le_of_ble_eq_true rfl)⟩ rfl (Nat.le_of_ble_eq_true rfl) dX16_next_2_1 rfl ⟨(Nat.le_of_ble_eq_true rfl), (Nat.le_of_ble_eq_true rfl)⟩) 4 rfl 0 (Nat.le_of_ble_eq_true rfl) ?_
  refine g_if_ne hC dX16_next_2_4 22 rfl 7 rfl (fun c_1 => ?_) (fun c_1 => ?_)
  · replace c_1 := bId_1 c_1
    refine g_aload_n hC dX16_next_2_22 0 rfl gRef_r 23 rfl ?_
    refine g_get (v := .ref sa) hC cI12 hM_0 0 (Nat.le_of_ble_eq_true rfl) q2589 rfl dX16_next_2_23 26 rfl ?_
    refine g_calliP (g_V (As := []) (rest := []) hC mvX4_isDue q1282 (gOf.of hC.K cI3 hM_3) (met_St_isDue l G M sa (9, 12) la (nI ru) hM_3) ⟨rfl, rfl⟩ ⟨(Nat.le_of_ble_eq_true rfl), (Nat.le_of_ble_eq_true rfl)⟩ rfl (Nat.le_of_ble_eq_true rfl) dX16_next_2_26 rfl ⟨(Nat.le_of_ble_eq_true rfl), (Nat.le_of_ble_eq_true rfl)⟩) 29 rfl 0 (Nat.le_of_ble_eq_true rfl) ?_
    refine g_if_eq hC dX16_next_2_29 42 rfl 32 rfl (fun c_2 => ?_) (fun c_2 => ?_)
    · replace c_2 := bId_0 c_2
      exact absurd c_2 (by first | omega | (rw [hru5]; omega) | (simp only [hru5] at *; first | omega | decide | simp_all) | simp_all)
    · replace c_2 := bId_1 c_2
      refine g_aload_n hC dX16_next_2_32 0 rfl gRef_r 33 rfl ?_
      refine g_get (v := .ref sa) hC cI12 hM_0 0 (Nat.le_of_ble_eq_true rfl) q2589 rfl dX16_next_2_33 36 rfl ?_
      refine g_calliP (g_V (As := []) (rest := []) hC mvX4_stuff q1354 (gOf.of hC.K cI3 hM_3) (met_St_stuff l G M sa (9, 12) la (nI ru) hM_3) ⟨rfl, rfl⟩ ⟨(Nat.le_of_ble_eq_true rfl), (Nat.le_of_ble_eq_true rfl)⟩ rfl (Nat.le_of_ble_eq_true rfl) dX16_next_2_36 rfl ⟨(Nat.le_of_ble_eq_true rfl), (Nat.le_of_ble_eq_true rfl)⟩) 39 rfl 0 (Nat.le_of_ble_eq_true rfl) ?_
      refine g_goto hC dX16_next_2_39 56 rfl ?_
      refine g_istore_n hC dX16_next_2_56 rfl (Nat.le_of_ble_eq_true rfl) [(1, .int (1 - la)), (0, .ref it)] rfl 57 rfl ?_
      refine g_aload_n hC dX16_next_2_57 1 rfl gRef_r 58 rfl ?_
      refine g_dup hC dX16_next_2_58 rfl 59 rfl ?_
      refine g_get (v := .int (nI pn)) hC cI12 hM_0 1 (Nat.le_of_ble_eq_true rfl) q2590 rfl dX16_next_2_59 62 rfl ?_
      refine g_aload_n hC dX16_next_2_62 1 rfl gRef_r 63 rfl ?_
      refine g_get (v := .ref sa) hC cI12 hM_0 0 (Nat.le_of_ble_eq_true rfl) q2589 rfl dX16_next_2_63 66 rfl ?_
      refine g_calliP (g_V (As := []) (rest := [.int (nI pn), .ref it]) hC mvX4_isDue q1282 (gOf.of hC.K cI3 hM_3) (met_St_isDue l G M sa (9, 12) la (nI ru) hM_3) ⟨rfl, rfl⟩ ⟨(Nat.le_of_ble_eq_true rfl), (Nat.le_of_ble_eq_true rfl)⟩ rfl (Nat.le_of_ble_eq_true rfl) dX16_next_2_66 rfl ⟨(Nat.le_of_ble_eq_true rfl), (Nat.le_of_ble_eq_true rfl)⟩) 69 rfl 0 (Nat.le_of_ble_eq_true rfl) ?_
      refine g_if_eq hC dX16_next_2_69 76 rfl 72 rfl (fun c_3 => ?_) (fun c_3 => ?_)
      · replace c_3 := bId_0 c_3
        exact absurd c_3 (by first | omega | (rw [hru5]; omega) | (simp only [hru5] at *; first | omega | decide | simp_all) | simp_all)
      · replace c_3 := bId_1 c_3
        refine g_iconst hC dX16_next_2_72 ki_0 73 rfl ?_
        refine g_goto hC dX16_next_2_73 77 rfl ?_
        refine g_iadd hC dX16_next_2_77 78 rfl ?_
        refine g_topi (y := nI pn) (nI_a (a := pn) (b := 0) (c := pn) (by omega)) ?_
        refine g_put hC cI12 hM_0 1 (Nat.le_of_ble_eq_true rfl) q2590 rfl rfl rfl (Nat.le_of_ble_eq_true rfl) dX16_next_2_78 (fs' := [.ref sa, .int (nI pn), .int (nI tl), .ref wa]) rfl 81 rfl (fun M4 hU5 => ?_)
        refine g_aload_n hC dX16_next_2_81 1 rfl gRef_r 82 rfl ?_
        refine g_get (v := .ref sa) hC cI12 hU5.1 0 (Nat.le_of_ble_eq_true rfl) q2589 rfl dX16_next_2_82 85 rfl ?_
        refine g_iload_n hC dX16_next_2_85 0 rfl 86 rfl ?_
        refine g_callv (g_V (As := [.int (1 - la)]) (rest := []) hC mvX4_see q1376 (gOf.of hC.K cI3 (hU5.n (gne_c hM_3 hM_0 (by decide)) hM_3)) (met_St_see l G M4 sa (9, 12) la (nI ru) (1 - la) (hU5.n (gne_c hM_3 hM_0 (by decide)) hM_3)) ⟨rfl, rfl⟩ ⟨(Nat.le_of_ble_eq_true rfl), (Nat.le_of_ble_eq_true rfl)⟩ rfl (Nat.le_of_ble_eq_true rfl) dX16_next_2_86 rfl ⟨(Nat.le_of_ble_eq_true rfl), (Nat.le_of_ble_eq_true rfl)⟩) 0 (Nat.le_of_ble_eq_true rfl) 0 (Nat.le_of_ble_eq_true rfl) 89 rfl (fun M6 k7 hp8 => ?_)
        obtain ⟨hc10, hF11, hk12⟩ := hp8
        refine g_iload_n hC dX16_next_2_89 0 rfl 90 rfl ?_
        refine g_callq (g_S (As := [.int (1 - la)]) (rest := []) hC msJ11_valueOf q1353 (met_valueOf l G M6 (1 - la)) ⟨rfl, rfl⟩ ⟨(Nat.le_of_ble_eq_true rfl), (Nat.le_of_ble_eq_true rfl)⟩ rfl (Nat.le_of_ble_eq_true rfl) dX16_next_2_90 rfl ⟨(Nat.le_of_ble_eq_true rfl), (Nat.le_of_ble_eq_true rfl)⟩) 1 (Nat.le_of_ble_eq_true rfl) 1 (Nat.le_of_ble_eq_true rfl) 93 rfl (fun r16 M13 k14 hp15 => ?_)
        obtain ⟨a_17, rfl, hF18, hq19, hk20⟩ := hp15
        have hH21 := (hF18 _ _ _ hc10 gno0)
        have hH22 := (hF18 _ _ _ (hF11 _ _ _ hU5.1 (gno (gne_c hU5.1 (hU5.n (gne_c hM_3 hM_0 (by decide)) hM_3) (by decide)) gno0)) gno0)
        have hH23 := (hF18 _ _ _ (hF11 _ _ _ (hU5.n (gne_c hM_1 hM_0 (by decide)) hM_1) (gno (gne_c (hU5.n (gne_c hM_1 hM_0 (by decide)) hM_1) (hU5.n (gne_c hM_3 hM_0 (by decide)) hM_3) (by decide)) gno0)) gno0)
        have hH24 := (hF18 _ _ _ (hF11 _ _ _ (hU5.n (gne_c hM_2 hM_0 (by decide)) hM_2) (gno (gne_c (hU5.n (gne_c hM_2 hM_0 (by decide)) hM_2) (hU5.n (gne_c hM_3 hM_0 (by decide)) hM_3) (by decide)) gno0)) gno0)
        exact g_aret (v := some a_17) hC (by first | exact Or.inl ⟨_, rfl⟩ | exact Or.inr ⟨_, rfl⟩) (fun k9 hk9 => ⟨a_17, rfl, hH22, (by rw [hH21, stf1 hla]; rfl), (((gFr.refl.up hU5 hM_0 (by simp)).trans (hF11.mono (by intro b t hb; simp at hb ⊢; first | done | (rcases hb with rfl | rfl | rfl | rfl <;> simp) | (simp [hb]; done)))).trans (hF18.mono (by intro b t hb; exact absurd hb List.not_mem_nil))), hq19, (by first | exact Nat.le_zero.mp hk9 | omega)⟩) dX16_next_2_93 (Nat.le_of_ble_eq_true rfl) (Nat.le_of_ble_eq_true rfl)
  · replace c_1 := bId_0 c_1
    exact absurd c_1 (by first | omega | (rw [hru5]; omega) | (simp only [hru5] at *; first | omega | decide | simp_all) | simp_all)
set_option maxHeartbeats 4000000 in
theorem met_Wi_next_s (l : Launch) (G : gG) (M : gM) (it : Nat) (wa : Nat) (fa : Nat) (sa : Nat) (id : Int32) (rm : Bool) (ln : Nat) (da : Int32) (od : Int32) (pn : Nat) (tl : Nat) (la : Int32) (ru : Nat) (hln : ln ≤ 4) (hpn : pn ≤ 70) (hru : ru ≤ 5) (htl : tl ≤ 10) (hs : pn < byF rm ln + 34) (hr : ru < 5) (hM_0 : M it = some ((9, 11), .inr (12, [.ref sa, .int (nI pn), .int (nI tl), .ref wa]))) (hM_1 : M wa = some ((9, 10), .inr (11, [.ref fa]))) (hM_2 : M fa = some ((0, 1), .inr (8, [.int id, .int (bI rm), .int (nI ln), .int da, .int od]))) (hM_3 : M sa = some ((9, 12), .inr (3, [.int la, .int (nI ru)]))) : Met l yX16_next_2 (ws_ yX16_next_2 cX16_next_2 2 (some (.object "java/lang/Integer"))) ({ frames := 4, cells := 1, slots := 1, locals := 84 }) (gPc G [.ref it] M) (gQq G (fun r9 M9 k9 => ∃ a9 : Nat, r9 = (some a9) ∧ M9 it = some ((9, 11), .inr (12, [.ref sa, .int (nI (pn + 1)), .int (nI tl), .ref wa])) ∧ M9 sa = some ((9, 12), .inr (3, [.int (frBT id rm ln da pn), .int (nI (if frBT id rm ln da pn = la then ru + 1 else 1))])) ∧ gFr (gL [it, sa]) M M9 ∧ gBox G M9 a9 (frBT id rm ln da pn) ∧ k9 ≤ 1)) 1 1 (gA G) := by
  refine gMet [(0, .ref it)] (by decide) (Nat.le_of_ble_eq_true rfl) rfl ?_
  intro p e s m below meth c hC
  have hby := byF_le (rm := rm) hln
  have hru5 : nI ru = 5 ↔ ru = 5 := nI_eq (b := 5) (by omega) (by decide)
  refine g_aload_n hC dX16_next_2_0 0 rfl gRef_r 1 rfl ?_
  refine g_calliP (g_V (As := []) (rest := []) hC mvX16_isStuffed q1269 (gOf.of hC.K cI12 hM_0) (met_Wi_isStuffed l G M it wa fa sa id rm ln da od pn tl la ru hln hpn hru htl hM_0 hM_1 hM_2 hM_3) ⟨rfl, rfl⟩ ⟨(Nat.le_of_ble_eq_true rfl), (Nat.le_of_ble_eq_true rfl)⟩ rfl (Nat.le_of_ble_eq_true rfl) dX16_next_2_1 rfl ⟨(Nat.le_of_ble_eq_true rfl), (Nat.le_of_ble_eq_true rfl)⟩) 4 rfl 0 (Nat.le_of_ble_eq_true rfl) ?_
  refine g_if_ne hC dX16_next_2_4 22 rfl 7 rfl (fun c_1 => ?_) (fun c_1 => ?_)
  · replace c_1 := bId_1 c_1
    refine g_aload_n hC dX16_next_2_22 0 rfl gRef_r 23 rfl ?_
    refine g_get (v := .ref sa) hC cI12 hM_0 0 (Nat.le_of_ble_eq_true rfl) q2589 rfl dX16_next_2_23 26 rfl ?_
    refine g_calliP (g_V (As := []) (rest := []) hC mvX4_isDue q1282 (gOf.of hC.K cI3 hM_3) (met_St_isDue l G M sa (9, 12) la (nI ru) hM_3) ⟨rfl, rfl⟩ ⟨(Nat.le_of_ble_eq_true rfl), (Nat.le_of_ble_eq_true rfl)⟩ rfl (Nat.le_of_ble_eq_true rfl) dX16_next_2_26 rfl ⟨(Nat.le_of_ble_eq_true rfl), (Nat.le_of_ble_eq_true rfl)⟩) 29 rfl 0 (Nat.le_of_ble_eq_true rfl) ?_
    refine g_if_eq hC dX16_next_2_29 42 rfl 32 rfl (fun c_2 => ?_) (fun c_2 => ?_)
    · replace c_2 := bId_0 c_2
      refine g_aload_n hC dX16_next_2_42 0 rfl gRef_r 43 rfl ?_
      refine g_get (v := .ref wa) hC cI12 hM_0 3 (Nat.le_of_ble_eq_true rfl) q2592 rfl dX16_next_2_43 46 rfl ?_
      refine g_getN (v := .ref fa) hC cI11 hM_1 0 (Nat.le_of_ble_eq_true rfl) q2570 rfl dX16_next_2_46 49 rfl ?_
      refine g_aload_n hC dX16_next_2_49 0 rfl gRef_r 50 rfl ?_
      refine g_get (v := .int (nI pn)) hC cI12 hM_0 1 (Nat.le_of_ble_eq_true rfl) q2590 rfl dX16_next_2_50 53 rfl ?_
      refine g_calliP (g_V (As := [.int (nI pn)]) (rest := []) hC mvX9_bit q1360 (gOf.of hC.K cI8 hM_2) (met_Fr_bit l G M fa (0, 1) id rm ln da od pn hln hpn hM_2) ⟨rfl, rfl⟩ ⟨(Nat.le_of_ble_eq_true rfl), (Nat.le_of_ble_eq_true rfl)⟩ rfl (Nat.le_of_ble_eq_true rfl) dX16_next_2_53 rfl ⟨(Nat.le_of_ble_eq_true rfl), (Nat.le_of_ble_eq_true rfl)⟩) 56 rfl 0 (Nat.le_of_ble_eq_true rfl) ?_
      refine g_istore_n hC dX16_next_2_56 rfl (Nat.le_of_ble_eq_true rfl) [(1, .int (frBT id rm ln da pn)), (0, .ref it)] rfl 57 rfl ?_
      refine g_aload_n hC dX16_next_2_57 1 rfl gRef_r 58 rfl ?_
      refine g_dup hC dX16_next_2_58 rfl 59 rfl ?_
      refine g_get (v := .int (nI pn)) hC cI12 hM_0 1 (Nat.le_of_ble_eq_true rfl) q2590 rfl dX16_next_2_59 62 rfl ?_
      refine g_aload_n hC dX16_next_2_62 1 rfl gRef_r 63 rfl ?_
      refine g_get (v := .ref sa) hC cI12 hM_0 0 (Nat.le_of_ble_eq_true rfl) q2589 rfl dX16_next_2_63 66 rfl ?_
      refine g_calliP (g_V (As := []) (rest := [.int (nI pn), .ref it]) hC mvX4_isDue q1282 (gOf.of hC.K cI3 hM_3) (met_St_isDue l G M sa (9, 12) la (nI ru) hM_3) ⟨rfl, rfl⟩ ⟨(Nat.le_of_ble_eq_true rfl), (Nat.le_of_ble_eq_true rfl)⟩ rfl (Nat.le_of_ble_eq_true rfl) dX16_next_2_66 rfl ⟨(Nat.le_of_ble_eq_true rfl), (Nat.le_of_ble_eq_true rfl)⟩) 69 rfl 0 (Nat.le_of_ble_eq_true rfl) ?_
      refine g_if_eq hC dX16_next_2_69 76 rfl 72 rfl (fun c_3 => ?_) (fun c_3 => ?_)
      · replace c_3 := bId_0 c_3
        refine g_iconst hC dX16_next_2_76 ki_1 77 rfl ?_
        refine g_iadd hC dX16_next_2_77 78 rfl ?_
        refine g_topi (y := nI (pn + 1)) (nI_a (a := pn) (b := 1) (c := (pn + 1)) (by omega)) ?_
        refine g_put hC cI12 hM_0 1 (Nat.le_of_ble_eq_true rfl) q2590 rfl rfl rfl (Nat.le_of_ble_eq_true rfl) dX16_next_2_78 (fs' := [.ref sa, .int (nI (pn + 1)), .int (nI tl), .ref wa]) rfl 81 rfl (fun M4 hU5 => ?_)
        refine g_aload_n hC dX16_next_2_81 1 rfl gRef_r 82 rfl ?_
        refine g_get (v := .ref sa) hC cI12 hU5.1 0 (Nat.le_of_ble_eq_true rfl) q2589 rfl dX16_next_2_82 85 rfl ?_
        refine g_iload_n hC dX16_next_2_85 0 rfl 86 rfl ?_
        refine g_callv (g_V (As := [.int (frBT id rm ln da pn)]) (rest := []) hC mvX4_see q1376 (gOf.of hC.K cI3 (hU5.n (gne_c hM_3 hM_0 (by decide)) hM_3)) (met_St_see l G M4 sa (9, 12) la (nI ru) (frBT id rm ln da pn) (hU5.n (gne_c hM_3 hM_0 (by decide)) hM_3)) ⟨rfl, rfl⟩ ⟨(Nat.le_of_ble_eq_true rfl), (Nat.le_of_ble_eq_true rfl)⟩ rfl (Nat.le_of_ble_eq_true rfl) dX16_next_2_86 rfl ⟨(Nat.le_of_ble_eq_true rfl), (Nat.le_of_ble_eq_true rfl)⟩) 0 (Nat.le_of_ble_eq_true rfl) 0 (Nat.le_of_ble_eq_true rfl) 89 rfl (fun M6 k7 hp8 => ?_)
        obtain ⟨hc10, hF11, hk12⟩ := hp8
        refine g_iload_n hC dX16_next_2_89 0 rfl 90 rfl ?_
        refine g_callq (g_S (As := [.int (frBT id rm ln da pn)]) (rest := []) hC msJ11_valueOf q1353 (met_valueOf l G M6 (frBT id rm ln da pn)) ⟨rfl, rfl⟩ ⟨(Nat.le_of_ble_eq_true rfl), (Nat.le_of_ble_eq_true rfl)⟩ rfl (Nat.le_of_ble_eq_true rfl) dX16_next_2_90 rfl ⟨(Nat.le_of_ble_eq_true rfl), (Nat.le_of_ble_eq_true rfl)⟩) 1 (Nat.le_of_ble_eq_true rfl) 1 (Nat.le_of_ble_eq_true rfl) 93 rfl (fun r16 M13 k14 hp15 => ?_)
        obtain ⟨a_17, rfl, hF18, hq19, hk20⟩ := hp15
        have hH21 := (hF18 _ _ _ hc10 gno0)
        have hH22 := (hF18 _ _ _ (hF11 _ _ _ hU5.1 (gno (gne_c hU5.1 (hU5.n (gne_c hM_3 hM_0 (by decide)) hM_3) (by decide)) gno0)) gno0)
        have hH23 := (hF18 _ _ _ (hF11 _ _ _ (hU5.n (gne_c hM_1 hM_0 (by decide)) hM_1) (gno (gne_c (hU5.n (gne_c hM_1 hM_0 (by decide)) hM_1) (hU5.n (gne_c hM_3 hM_0 (by decide)) hM_3) (by decide)) gno0)) gno0)
        have hH24 := (hF18 _ _ _ (hF11 _ _ _ (hU5.n (gne_c hM_2 hM_0 (by decide)) hM_2) (gno (gne_c (hU5.n (gne_c hM_2 hM_0 (by decide)) hM_2) (hU5.n (gne_c hM_3 hM_0 (by decide)) hM_3) (by decide)) gno0)) gno0)
        exact g_aret (v := some a_17) hC (by first | exact Or.inl ⟨_, rfl⟩ | exact Or.inr ⟨_, rfl⟩) (fun k9 hk9 => ⟨a_17, rfl, hH22, (by rw [hH21, nI_ite1]), (((gFr.refl.up hU5 hM_0 (by simp)).trans (hF11.mono (by intro b t hb; simp at hb ⊢; first | done | (rcases hb with rfl | rfl | rfl | rfl <;> simp) | (simp [hb]; done)))).trans (hF18.mono (by intro b t hb; exact absurd hb List.not_mem_nil))), hq19, (by first | exact Nat.le_zero.mp hk9 | omega)⟩) dX16_next_2_93 (Nat.le_of_ble_eq_true rfl) (Nat.le_of_ble_eq_true rfl)
      · replace c_3 := bId_1 c_3
        exact absurd c_3 (by first | omega | (rw [hru5]; omega) | (simp only [hru5] at *; first | omega | decide | simp_all) | simp_all)
    · replace c_2 := bId_1 c_2
      exact absurd c_2 (by first | omega | (rw [hru5]; omega) | (simp only [hru5] at *; first | omega | decide | simp_all) | simp_all)
  · replace c_1 := bId_0 c_1
    exact absurd c_1 (by first | omega | (rw [hru5]; omega) | (simp only [hru5] at *; first | omega | decide | simp_all) | simp_all)
def wLev (g : Nat → Int32) (bs pn ru : Nat) (la : Int32) : Int32 := if pn < bs ∨ ru = 5 then obB g pn ru la else 1
def wPn (bs pn ru : Nat) : Nat := if pn < bs ∨ ru = 5 then (if ru = 5 then pn else pn + 1) else pn
def wTl (bs pn ru tl : Nat) : Nat := if pn < bs ∨ ru = 5 then tl else tl + 1
def wRu (g : Nat → Int32) (bs pn ru : Nat) (la : Int32) : Nat := if pn < bs ∨ ru = 5 then (if obB g pn ru la = la ∧ ru < 5 then ru + 1 else 1) else ru
def wLa (g : Nat → Int32) (bs pn ru : Nat) (la : Int32) : Int32 := if pn < bs ∨ ru = 5 then obB g pn ru la else la
def wF (bs pn ru F : Nat) : Nat := if pn < bs ∨ ru = 5 then F - 1 else F
def wOk (g : Nat → Int32) (bs : Nat) (ix V : Int32) (F n pn tl ru : Nat) (la : Int32) : Prop :=
  (pn ≤ bs ∧ ru ≤ 5 ∧ tl ≤ 10 ∧ n ≤ 2 * bs + 2 + tl ∧ tl ≤ n) ∧ (la = 0 ∨ la = 1 ∨ (la = -1 ∧ ru = 0)) ∧
  ((tl = 0 ∧ n + F = 2 * bs + 2 ∧ (ru = 5 → 2 * (bs - pn) + 1 < F) ∧ 2 * (bs - pn) < F ∧ obT g bs ix F n pn ru la = V) ∨ (¬ (pn < bs ∨ ru = 5) ∧ (if ix < 0 then nI (n - tl + 10) else if ix < nI (n - tl + 10) then 1 else -5) = V))
theorem wOk.i {g : Nat → Int32} {bs : Nat} {ix : Int32} : wOk g bs ix (obT g bs ix (2 * bs + 2) 0 0 0 (-1)) (2 * bs + 2) 0 0 0 0 (-1) :=
  ⟨⟨by omega, by omega, by omega, by omega, by omega⟩, Or.inr (Or.inr ⟨rfl, rfl⟩), Or.inl ⟨rfl, by omega, by omega, by omega, rfl⟩⟩
theorem wOk.step {g : Nat → Int32} {bs : Nat} {ix V : Int32} {F n pn tl ru : Nat} {la : Int32} (h : wOk g bs ix V F n pn tl ru la) (hg : ∀ p, g p = 0 ∨ g p = 1) (hn : ¬ nI n = ix) (hh : (pn < bs ∨ ru = 5) ∨ tl < 10) : wOk g bs ix V (wF bs pn ru F) (n + 1) (wPn bs pn ru) (wTl bs pn ru tl) (wRu g bs pn ru la) (wLa g bs pn ru la) := by
  obtain ⟨⟨b1, b2, b3, b4, b5⟩, hl, hc⟩ := h
  unfold wF wPn wTl wRu wLa
  by_cases hs : pn < bs ∨ ru = 5
  · simp only [if_pos hs]
    rcases hc with ⟨rfl, c1, c2, c3, c4⟩ | ⟨c, -⟩
    · have hgo := obT_go (g := g) (bs := bs) (ix := ix) (F := F) (n := n) (k := pn) (sa := ru) (la := la) (by omega) hs hn
      have hob : obB g pn ru la = 0 ∨ obB g pn ru la = 1 := by
        unfold obB
        split
        · rcases hl with rfl | rfl | ⟨-, q⟩
          · exact Or.inr rfl
          · exact Or.inl rfl
          · omega
        · exact hg pn
      refine ⟨⟨?_, ?_, by omega, by omega, by omega⟩, ?_, Or.inl ⟨rfl, by omega, ?_, ?_, hgo.trans c4⟩⟩
      · split <;> omega
      · split <;> omega
      · rcases hob with q | q
        · exact Or.inl q
        · exact Or.inr (Or.inl q)
      · by_cases h5 : ru = 5
        · rw [if_pos h5, if_neg (fun q => by omega)]; intro z; omega
        · rw [if_neg h5]; intro z; omega
      · split <;> omega
    · exact absurd hs c
  · simp only [if_neg hs]
    refine ⟨⟨b1, b2, by omega, by omega, by omega⟩, hl, Or.inr ⟨hs, ?_⟩⟩
    rcases hc with ⟨rfl, c1, c2, c3, c4⟩ | ⟨c, c4⟩
    · rw [show n + 1 - (0 + 1) = n by omega, obT_end (g := g) (bs := bs) (F := F) (k := pn) (sa := ru) (la := la) (by omega) hs]; exact c4
    · rw [show n + 1 - (tl + 1) = n - tl by omega]; exact c4
theorem wOk.fin {g : Nat → Int32} {bs : Nat} {ix V : Int32} {F n pn tl ru : Nat} {la : Int32} (h : wOk g bs ix V F n pn tl ru la) (hh : ¬ ((pn < bs ∨ ru = 5) ∨ tl < 10)) : (if ix < 0 then nI n else if ix < nI n then 1 else -5) = V := by
  obtain ⟨⟨b1, b2, b3, b4, b5⟩, hl, hc⟩ := h
  rcases hc with ⟨rfl, c1, c2, c3, c4⟩ | ⟨c, c4⟩
  · omega
  · rw [show n - tl + 10 = n by omega] at c4; exact c4
theorem wOk.hit {g : Nat → Int32} {bs : Nat} {ix V : Int32} {F n pn tl ru : Nat} {la : Int32} (h : wOk g bs ix V F n pn tl ru la) (hbs : bs ≤ 1000) (hn : nI n = ix) (hh : (pn < bs ∨ ru = 5) ∨ tl < 10) : wLev g bs pn ru la = V := by
  obtain ⟨⟨b1, b2, b3, b4, b5⟩, hl, hc⟩ := h
  unfold wLev
  by_cases hs : pn < bs ∨ ru = 5
  · rw [if_pos hs]
    rcases hc with ⟨rfl, c1, c2, c3, c4⟩ | ⟨c, c4⟩
    · rw [← c4]; exact obT_hit (by omega) hs hn
    · exact absurd hs c
  · rw [if_neg hs]
    have e : (if ix < 0 then nI (n - tl + 10) else if ix < nI (n - tl + 10) then 1 else -5) = V := by
      rcases hc with ⟨rfl, c1, c2, c3, c4⟩ | ⟨c, c4⟩
      · rw [← c4, ← obT_end (by omega) hs]; rfl
      · exact c4
    rw [← e, ← hn, if_neg (nI_pos (by omega)), if_pos ((nI_ltI (by omega) (by omega)).mpr (by omega))]
theorem wLev_01 {g : Nat → Int32} {bs pn ru : Nat} {la : Int32} (hg : ∀ p, g p = 0 ∨ g p = 1) (hl : la = 0 ∨ la = 1 ∨ (la = -1 ∧ ru = 0)) : ¬ wLev g bs pn ru la < 0 := by
  have h : wLev g bs pn ru la = 0 ∨ wLev g bs pn ru la = 1 := by
    unfold wLev obB
    split
    · split
      · rcases hl with rfl | rfl | ⟨-, q⟩
        · exact Or.inr rfl
        · exact Or.inl rfl
        · omega
      · exact hg pn
    · exact Or.inr rfl
  rcases h with q | q <;> rw [q] <;> decide
theorem obT_c {g g' : Nat → Int32} {bs : Nat} {ix : Int32} (h : ∀ p, p < bs → g p = g' p) : ∀ (F n k sa : Nat) (la : Int32), obT g bs ix F n k sa la = obT g' bs ix F n k sa la := by
  intro F
  induction F with
  | zero => intro n k sa la; rfl
  | succ F ih =>
    intro n k sa la
    unfold obT
    by_cases hs : k < bs ∨ sa = 5
    · have e : obB g k sa la = obB g' k sa la := by
        unfold obB
        split
        · rfl
        · exact h k (by omega)
      rw [if_pos hs, if_pos hs, e, ih]
    · rw [if_neg hs, if_neg hs]
theorem obT_lays {g : Nat → Int32} {id da : Int32} {rm : Bool} {ln : Nat} {ix : Int32} (hl : ln ≤ 4) (F n k sa : Nat) (la : Int32) : obT (frBT id rm ln da) (byF rm ln + 34) ix F n k sa la = obT (laysT g 0 id rm ln da) (byF rm ln + 34) ix F n k sa la :=
  obT_c (fun p hp => by rw [← (lays_rd (F := g) (fr := 0) (id := id) (da := da) (rm := rm) hl).1 p hp, Nat.zero_add]) F n k sa la
set_option maxHeartbeats 4000000 in
theorem met_Wi_nextI (l : Launch) (G : gG) (M : gM) (it : Nat) (wa : Nat) (fa : Nat) (sa : Nat) (id : Int32) (rm : Bool) (ln : Nat) (da : Int32) (od : Int32) (pn : Nat) (tl : Nat) (la : Int32) (ru : Nat) (hln : ln ≤ 4) (hpn : pn ≤ 70) (hru : ru ≤ 5) (htl : tl ≤ 10) (hla : la = 0 ∨ la = 1 ∨ (la = -1 ∧ ru = 0)) (hM_0 : M it = some ((9, 11), .inr (12, [.ref sa, .int (nI pn), .int (nI tl), .ref wa]))) (hM_1 : M wa = some ((9, 10), .inr (11, [.ref fa]))) (hM_2 : M fa = some ((0, 1), .inr (8, [.int id, .int (bI rm), .int (nI ln), .int da, .int od]))) (hM_3 : M sa = some ((9, 12), .inr (3, [.int la, .int (nI ru)]))) : Met l yX16_next_2 (ws_ yX16_next_2 cX16_next_2 2 (some (.object "java/lang/Integer"))) ({ frames := 4, cells := 1, slots := 1, locals := 84 }) (gPc G [.ref it] M) (gQq G (fun r9 M9 k9 => ∃ a9 : Nat, r9 = (some a9) ∧ M9 it = some ((9, 11), .inr (12, [.ref sa, .int (nI (wPn (byF rm ln + 34) pn ru)), .int (nI (wTl (byF rm ln + 34) pn ru tl)), .ref wa])) ∧ M9 sa = some ((9, 12), .inr (3, [.int (wLa (frBT id rm ln da) (byF rm ln + 34) pn ru la), .int (nI (wRu (frBT id rm ln da) (byF rm ln + 34) pn ru la))])) ∧ gFr (gL [it, sa]) M M9 ∧ gBox G M9 a9 (wLev (frBT id rm ln da) (byF rm ln + 34) pn ru la) ∧ k9 ≤ 1)) 1 1 (gA G) := by
  have hfr : ∀ M', gFr (gL [it]) M M' → gFr (gL [it, sa]) M M' := fun M' h => h.mono (fun b t hb => by simp at hb ⊢; exact Or.inl hb)
  unfold wPn wTl wRu wLa wLev
  by_cases hs : pn < byF rm ln + 34 ∨ ru = 5
  · simp only [if_pos hs]
    by_cases h5 : ru = 5
    · have hl2 : la = 0 ∨ la = 1 := by
        rcases hla with q | q | ⟨-, q⟩
        · exact Or.inl q
        · exact Or.inr q
        · omega
      refine gMono_q (met_Wi_next_5 l G M it wa fa sa id rm ln da od pn tl la ru hln hpn hru htl h5 hl2 hM_0 hM_1 hM_2 hM_3) ?_
      intro r9 M9 k9 ⟨a9, e1, c1, c2, hF, hb, hk⟩
      have e : obB (frBT id rm ln da) pn ru la = 1 - la := by unfold obB; rw [if_pos h5]
      rw [e, if_pos h5, if_neg (fun q => by omega)]
      exact ⟨a9, e1, c1, c2, hF, hb, hk⟩
    · refine gMono_q (met_Wi_next_s l G M it wa fa sa id rm ln da od pn tl la ru hln hpn hru htl (by omega) (by omega) hM_0 hM_1 hM_2 hM_3) ?_
      intro r9 M9 k9 ⟨a9, e1, c1, c2, hF, hb, hk⟩
      have e : obB (frBT id rm ln da) pn ru la = frBT id rm ln da pn := by unfold obB; rw [if_neg h5]
      rw [e, if_neg h5]
      simp only [show ru < 5 from by omega, and_true]
      exact ⟨a9, e1, c1, c2, hF, hb, hk⟩
  · simp only [if_neg hs]
    refine gMono_q (met_Wi_next_t l G M it wa fa sa id rm ln da od pn tl la ru hln hpn hru htl hs hM_0 hM_1 hM_2 hM_3) ?_
    intro r9 M9 k9 ⟨a9, e1, c1, hF, hb, hk⟩
    exact ⟨a9, e1, c1, hF _ _ _ hM_3 (gno (gne_c hM_3 hM_0 (by decide)) gno0), hfr _ hF, hb, hk⟩
set_option maxHeartbeats 4000000 in
theorem met_Wi_next (l : Launch) (G : gG) (M : gM) (it : Nat) (wa : Nat) (fa : Nat) (sa : Nat) (id : Int32) (rm : Bool) (ln : Nat) (da : Int32) (od : Int32) (pn : Nat) (tl : Nat) (la : Int32) (ru : Nat) (hln : ln ≤ 4) (hpn : pn ≤ 70) (hru : ru ≤ 5) (htl : tl ≤ 10) (hla : la = 0 ∨ la = 1 ∨ (la = -1 ∧ ru = 0)) (hM_0 : M it = some ((9, 11), .inr (12, [.ref sa, .int (nI pn), .int (nI tl), .ref wa]))) (hM_1 : M wa = some ((9, 10), .inr (11, [.ref fa]))) (hM_2 : M fa = some ((0, 1), .inr (8, [.int id, .int (bI rm), .int (nI ln), .int da, .int od]))) (hM_3 : M sa = some ((9, 12), .inr (3, [.int la, .int (nI ru)]))) : Met l yX16_next (ws_ yX16_next cX16_next 1 (some (.object "java/lang/Object"))) ({ frames := 5, cells := 1, slots := 1, locals := 105 }) (gPc G [.ref it] M) (gQq G (fun r9 M9 k9 => ∃ a9 : Nat, r9 = (some a9) ∧ M9 it = some ((9, 11), .inr (12, [.ref sa, .int (nI (wPn (byF rm ln + 34) pn ru)), .int (nI (wTl (byF rm ln + 34) pn ru tl)), .ref wa])) ∧ M9 sa = some ((9, 12), .inr (3, [.int (wLa (frBT id rm ln da) (byF rm ln + 34) pn ru la), .int (nI (wRu (frBT id rm ln da) (byF rm ln + 34) pn ru la))])) ∧ gFr (gL [it, sa]) M M9 ∧ gBox G M9 a9 (wLev (frBT id rm ln da) (byF rm ln + 34) pn ru la) ∧ k9 ≤ 1)) 1 1 (gA G) := by
  refine gMet [(0, .ref it)] (by decide) (Nat.le_of_ble_eq_true rfl) rfl ?_
  intro p e s m below meth c hC
  refine g_aload_n hC dX16_next_0 0 rfl gRef_r 1 rfl ?_
  refine g_callq (g_V (As := []) (rest := []) hC mvX16_next_2 q1349 (gOf.of hC.K cI12 hM_0) (met_Wi_nextI l G M it wa fa sa id rm ln da od pn tl la ru hln hpn hru htl hla hM_0 hM_1 hM_2 hM_3) ⟨rfl, rfl⟩ ⟨(Nat.le_of_ble_eq_true rfl), (Nat.le_of_ble_eq_true rfl)⟩ rfl (Nat.le_of_ble_eq_true rfl) dX16_next_1 rfl ⟨(Nat.le_of_ble_eq_true rfl), (Nat.le_of_ble_eq_true rfl)⟩) 1 (Nat.le_of_ble_eq_true rfl) 1 (Nat.le_of_ble_eq_true rfl) 4 rfl (fun r4 M1 k2 hp3 => ?_)
  obtain ⟨a9_5, rfl, hc6, hc7, hF8, hq9, hk10⟩ := hp3
  exact g_aret (v := some a9_5) hC (by first | exact Or.inl ⟨_, rfl⟩ | exact Or.inr ⟨_, rfl⟩) (fun k9 hk9 => ⟨a9_5, rfl, hc6, hc7, (gFr.refl.trans (hF8.mono (by intro b t hb; simp at hb ⊢; first | done | (rcases hb with rfl | rfl | rfl | rfl <;> simp) | (simp [hb]; done)))), hq9, (by first | exact Nat.le_zero.mp hk9 | omega)⟩) dX16_next_4 (Nat.le_of_ble_eq_true rfl) (Nat.le_of_ble_eq_true rfl)
theorem nI_n1 {n : Nat} (h : n < 2147483648) : ¬ nI n = -1 := fun q => nI_pos h (by rw [q]; decide)
set_option maxHeartbeats 4000000 in
theorem met_W_bits (l : Launch) (G : gG) (M : gM) (wa : Nat) (fa : Nat) (id : Int32) (rm : Bool) (ln : Nat) (da : Int32) (od : Int32) (hln : ln ≤ 4) (hM_0 : M wa = some ((9, 10), .inr (11, [.ref fa]))) (hM_1 : M fa = some ((0, 1), .inr (8, [.int id, .int (bI rm), .int (nI ln), .int da, .int od]))) : Met l yX15_bits (ws_ yX15_bits cX15_bits 4 (some .int)) ({ frames := 6, cells := 220, slots := 500, locals := 125 }) (gPc G [.ref wa] M) (gQi G (fun r9 M9 k9 => r9 = (obT (frBT id rm ln da) (byF rm ln + 34) (-1) (2 * (byF rm ln + 34) + 2) 0 0 0 (-1)) ∧ gFr (gT (tgR 9 8 16)) M M9 ∧ k9 ≤ 220)) 220 500 (gA G) := by
  refine gMet [(0, .ref wa)] (by decide) (Nat.le_of_ble_eq_true rfl) rfl ?_
  intro p e s m below meth c hC
  have hby := byF_le (rm := rm) hln
  refine g_iconst hC dX15_bits_0 ki_0 1 rfl ?_
  refine g_istore_n hC dX15_bits_1 rfl (Nat.le_of_ble_eq_true rfl) [(1, .int 0), (0, .ref wa)] rfl 2 rfl ?_
  refine g_aload_n hC dX15_bits_2 1 rfl gRef_r 3 rfl ?_
  refine g_callq (g_V (As := []) (rest := []) hC mvX15_iterator q2578 (gOf.of hC.K cI11 hM_0) (met_W_iterator l G M wa fa hM_0) ⟨rfl, rfl⟩ ⟨(Nat.le_of_ble_eq_true rfl), (Nat.le_of_ble_eq_true rfl)⟩ rfl (Nat.le_of_ble_eq_true rfl) dX15_bits_3 rfl ⟨(Nat.le_of_ble_eq_true rfl), (Nat.le_of_ble_eq_true rfl)⟩) 2 (Nat.le_of_ble_eq_true rfl) 6 (Nat.le_of_ble_eq_true rfl) 6 rfl (fun r4 M1 k2 hp3 => ?_)
  obtain ⟨it_5, sa_6, rfl, hc7, hc8, hF9, hk10⟩ := hp3
  refine g_astore_n hC dX15_bits_6 rfl gRef_r (Nat.le_of_ble_eq_true rfl) [(2, .ref it_5), (1, .int 0), (0, .ref wa)] rfl 7 rfl ?_
  have loop7 : ∀ (n9 : Nat) (F : Nat) (n : Nat) (pn : Nat) (tl : Nat) (ru : Nat) (la : Int32) (it : Nat) (sa : Nat) (ML : gM), (hw : wOk (frBT id rm ln da) (byF rm ln + 34) (-1) (obT (frBT id rm ln da) (byF rm ln + 34) (-1) (2 * (byF rm ln + 34) + 2) 0 0 0 (-1)) F n pn tl ru la) → F + (10 - tl) < n9 → (ML it = some ((9, 11), .inr (12, [.ref sa, .int (nI pn), .int (nI tl), .ref wa]))) → (ML wa = some ((9, 10), .inr (11, [.ref fa]))) → (ML fa = some ((0, 1), .inr (8, [.int id, .int (bI rm), .int (nI ln), .int da, .int od]))) → (ML sa = some ((9, 12), .inr (3, [.int la, .int (nI ru)]))) → gFr (gT (tgR 9 8 16)) M ML → gJ p l e ({ frames := 6, cells := 220, slots := 500, locals := 125 } : Room) s m ([.ref wa] : List Value).toArray below meth c G 4 (MQ below (gQi G (fun r9 M9 k9 => r9 = (obT (frBT id rm ln da) (byF rm ln + 34) (-1) (2 * (byF rm ln + 34) + 2) 0 0 0 (-1)) ∧ gFr (gT (tgR 9 8 16)) M M9 ∧ k9 ≤ 220)) ([.ref wa] : List Value).toArray s 220 500 (gA G)) (n + 2) (2 * n + 20) ML 7 [(0, .ref wa), (1, .int (nI n)), (2, .ref it)] [] := by
    intro n9
    induction n9 with
    | zero => intro F n pn tl ru la it sa ML hw hmu; exact absurd hmu (Nat.not_lt_zero _)
    | succ n9 ih =>
      intro F n pn tl ru la it sa ML hw hmu hL_0 hL_1 hL_2 hL_3 hLF
      have hw9 := hw
      obtain ⟨⟨hb1, hru, htl, hb4, hb5⟩, hla, -⟩ := hw9
      have hpn : pn ≤ 70 := by omega
      have hn200 : n ≤ 200 := by omega
      refine g_aload_n hC dX15_bits_7 2 rfl gRef_r 8 rfl ?_
      refine g_callFiP (g_F (n := 0) (As := []) (rest := []) hC ⟨by decide +kernel, q1264, q1266, q164, q1268, by decide +kernel⟩ q2603 (gOf.of hC.K cI12 hL_0) (hC.at cI12) (met_Wi_hasNext l G ML it wa fa sa id rm ln da od pn tl la ru hln (by first | assumption | decide | omega | (dsimp only; omega) | simp_all) (by first | assumption | decide | omega | (dsimp only; omega) | simp_all) (by first | assumption | decide | omega | (dsimp only; omega) | simp_all) hL_0 hL_1 hL_2 hL_3) ⟨rfl, rfl⟩ ⟨(Nat.le_of_ble_eq_true rfl), (Nat.le_of_ble_eq_true rfl)⟩ rfl (Nat.le_of_ble_eq_true rfl) dX15_bits_8 rfl ⟨(by first | omega | (dsimp only; omega)), (by first | omega | (dsimp only; omega))⟩) 13 rfl (2 * n + 20) (by first | omega | (dsimp only; omega)) ?_
      refine g_if_eq hC dX15_bits_13 44 rfl 16 rfl (fun c_11 => ?_) (fun c_11 => ?_)
      · replace c_11 := bId_0 c_11
        refine g_iload_n hC dX15_bits_44 1 rfl 45 rfl ?_
        exact g_iret (v := nI n) hC (fun k9 hk9 => ⟨(by have h9 := wOk.fin hw c_11; rw [if_pos (by decide)] at h9; exact h9), hLF, (by first | exact Nat.le_zero.mp hk9 | omega)⟩) dX15_bits_45 (by first | omega | (dsimp only; omega)) (by first | omega | (dsimp only; omega))
      · replace c_11 := bId_1 c_11
        refine g_aload_n hC dX15_bits_16 2 rfl gRef_r 17 rfl ?_
        refine g_callFq (g_F (n := 0) (As := []) (rest := []) hC ⟨by decide +kernel, q1344, q1346, q164, q1348, by decide +kernel⟩ q2605 (gOf.of hC.K cI12 hL_0) (hC.at cI12) (met_Wi_next l G ML it wa fa sa id rm ln da od pn tl la ru hln (by first | assumption | decide | omega | (dsimp only; omega) | simp_all) (by first | assumption | decide | omega | (dsimp only; omega) | simp_all) (by first | assumption | decide | omega | (dsimp only; omega) | simp_all) (by first | assumption | decide | omega | (dsimp only; omega) | simp_all) hL_0 hL_1 hL_2 hL_3) ⟨rfl, rfl⟩ ⟨(Nat.le_of_ble_eq_true rfl), (Nat.le_of_ble_eq_true rfl)⟩ rfl (Nat.le_of_ble_eq_true rfl) dX15_bits_17 rfl ⟨(by first | omega | (dsimp only; omega)), (by first | omega | (dsimp only; omega))⟩) (n + 2 + 1) (by first | omega | (dsimp only; omega)) (2 * n + 20 + 1) (by first | omega | (dsimp only; omega)) 22 rfl (fun r15 M12 k13 hp14 => ?_)
        obtain ⟨a9_16, rfl, hc17, hc18, hF19, hq20, hk21⟩ := hp14
        refine g_castS hC (hC.at cI28) (gOf.box hC.K hq20) q2606 dX15_bits_22 25 rfl ?_
        refine g_astore_n hC dX15_bits_25 rfl gRef_r (Nat.le_of_ble_eq_true rfl) [(3, .ref a9_16), (0, .ref wa), (1, .int (nI n)), (2, .ref it)] rfl 26 rfl ?_
        refine g_iload_n hC dX15_bits_26 2 rfl 27 rfl ?_
        refine g_aload_n hC dX15_bits_27 0 rfl gRef_r 28 rfl ?_
        refine g_calliP (g_V (As := []) (rest := [.int (nI n)]) hC mvJ11_intValue q2607 (gOf.box hC.K hq20) (met_intValue l G M12 a9_16 (wLev (frBT id rm ln da) (byF rm ln + 34) pn ru la) hq20) ⟨rfl, rfl⟩ ⟨(Nat.le_of_ble_eq_true rfl), (Nat.le_of_ble_eq_true rfl)⟩ rfl (Nat.le_of_ble_eq_true rfl) dX15_bits_28 rfl ⟨(by first | omega | (dsimp only; omega)), (by first | omega | (dsimp only; omega))⟩) 31 rfl (2 * n + 20 + 1) (by first | omega | (dsimp only; omega)) ?_
        refine g_if_lt hC dX15_bits_31 38 rfl 34 rfl (fun c_22 => ?_) (fun c_22 => ?_)
        · exact absurd c_22 (wLev_01 (fun p => frBT_01) hla)
        · refine g_iconst hC dX15_bits_34 ki_1 35 rfl ?_
          refine g_goto hC dX15_bits_35 39 rfl ?_
          refine g_iadd hC dX15_bits_39 40 rfl ?_
          refine g_topi (y := nI (n + 1)) (nI_a (a := n) (b := 1) (c := (n + 1)) (by omega)) ?_
          refine g_istore_n hC dX15_bits_40 rfl (Nat.le_of_ble_eq_true rfl) [(1, .int (nI (n + 1))), (3, .ref a9_16), (0, .ref wa), (2, .ref it)] rfl 41 rfl ?_
          refine g_goto hC dX15_bits_41 7 rfl ?_
          refine gJ.sub (M' := M12) [2, 0, 3] rfl ?_
          refine gJ.widen (k := (n + 1) + 2) (n := 2 * (n + 1) + 20) (by first | omega | (dsimp only; omega)) (by first | omega | (dsimp only; omega)) ?_
          exact ih (wF (byF rm ln + 34) pn ru F) (n + 1) (wPn (byF rm ln + 34) pn ru) (wTl (byF rm ln + 34) pn ru tl) (wRu (frBT id rm ln da) (byF rm ln + 34) pn ru la) (wLa (frBT id rm ln da) (byF rm ln + 34) pn ru la) it sa M12 (wOk.step hw (fun p => frBT_01) (nI_n1 (by omega)) c_11) (by have hwm := c_11; have hwx := hw.2.2; unfold wF wTl; split <;> omega) hc17 (hF19 _ _ _ hL_1 (gno (gne_c hL_1 hL_0 (by decide)) (gno (gne_c hL_1 hL_3 (by decide)) gno0))) (hF19 _ _ _ hL_2 (gno (gne_c hL_2 hL_0 (by decide)) (gno (gne_c hL_2 hL_3 (by decide)) gno0))) hc18 (hLF.trans (gFr.refl.trf hF19 (fun b t e hb hn => (gno (gne_t (gFr.refl b t e hb hn) hL_0 (fun q => hn (by rw [q]; exact (show (tgR 9 8 16) (9, 11) by (try simp only [ndT, tgE, gT, tgR, ndT9, ndW, tg0, Prod.mk.injEq, true_and, and_true, cpyT]); first | done | omega | (simp; done))))) (gno (gne_t (gFr.refl b t e hb hn) hL_3 (fun q => hn (by rw [q]; exact (show (tgR 9 8 16) (9, 12) by (try simp only [ndT, tgE, gT, tgR, ndT9, ndW, tg0, Prod.mk.injEq, true_and, and_true, cpyT]); first | done | omega | (simp; done))))) gno0)))))
  refine gJ.sub (M' := M1) [2, 1, 0] rfl ?_
  refine gJ.widen (k := 0 + 2) (n := 2 * 0 + 20) (by first | omega | (dsimp only; omega)) (by first | omega | (dsimp only; omega)) ?_
  exact loop7 _ (2 * (byF rm ln + 34) + 2) 0 0 0 0 (-1) it_5 sa_6 M1 wOk.i (Nat.lt_succ_self _) hc7 (hF9 _ _ _ hM_0 gno0) (hF9 _ _ _ hM_1 gno0) hc8 (gFr.refl.trf hF9 (fun b t e hb hn => gno0))
set_option maxHeartbeats 4000000 in
theorem met_W_bit (l : Launch) (G : gG) (M : gM) (wa : Nat) (fa : Nat) (id : Int32) (rm : Bool) (ln : Nat) (da : Int32) (od : Int32) (i : Nat) (hln : ln ≤ 4) (hi : i < 2147483648) (hM_0 : M wa = some ((9, 10), .inr (11, [.ref fa]))) (hM_1 : M fa = some ((0, 1), .inr (8, [.int id, .int (bI rm), .int (nI ln), .int da, .int od]))) : Met l yX15_bit (ws_ yX15_bit cX15_bit 5 (some .int)) ({ frames := 6, cells := 220, slots := 500, locals := 125 }) (gPc G [.ref wa, .int (nI i)] M) (gQi G (fun r9 M9 k9 => r9 = (obT (frBT id rm ln da) (byF rm ln + 34) (nI i) (2 * (byF rm ln + 34) + 2) 0 0 0 (-1)) ∧ gFr (gT (tgR 9 8 16)) M M9 ∧ k9 ≤ 220)) 220 500 (gA G) := by
  refine gMet [(0, .ref wa), (1, .int (nI i))] (by decide) (Nat.le_of_ble_eq_true rfl) rfl ?_
  intro p e s m below meth c hC
  have hby := byF_le (rm := rm) hln
  refine g_iload_n hC dX15_bit_0 1 rfl 1 rfl ?_
  refine g_istore_n hC dX15_bit_1 rfl (Nat.le_of_ble_eq_true rfl) [(2, .int (nI i)), (0, .ref wa), (1, .int (nI i))] rfl 2 rfl ?_
  refine g_aload_n hC dX15_bit_2 1 rfl gRef_r 3 rfl ?_
  refine g_callq (g_V (As := []) (rest := []) hC mvX15_iterator q2578 (gOf.of hC.K cI11 hM_0) (met_W_iterator l G M wa fa hM_0) ⟨rfl, rfl⟩ ⟨(Nat.le_of_ble_eq_true rfl), (Nat.le_of_ble_eq_true rfl)⟩ rfl (Nat.le_of_ble_eq_true rfl) dX15_bit_3 rfl ⟨(Nat.le_of_ble_eq_true rfl), (Nat.le_of_ble_eq_true rfl)⟩) 2 (Nat.le_of_ble_eq_true rfl) 6 (Nat.le_of_ble_eq_true rfl) 6 rfl (fun r4 M1 k2 hp3 => ?_)
  obtain ⟨it_5, sa_6, rfl, hc7, hc8, hF9, hk10⟩ := hp3
  refine g_astore_n hC dX15_bit_6 rfl gRef_r (Nat.le_of_ble_eq_true rfl) [(3, .ref it_5), (2, .int (nI i)), (0, .ref wa), (1, .int (nI i))] rfl 7 rfl ?_
  have loop7 : ∀ (n9 : Nat) (F : Nat) (n : Nat) (pn : Nat) (tl : Nat) (ru : Nat) (la : Int32) (it : Nat) (sa : Nat) (j : Nat) (ML : gM), (hw : wOk (frBT id rm ln da) (byF rm ln + 34) (nI i) (obT (frBT id rm ln da) (byF rm ln + 34) (nI i) (2 * (byF rm ln + 34) + 2) 0 0 0 (-1)) F n pn tl ru la) → (hj : j + n = i) → F + (10 - tl) < n9 → (ML it = some ((9, 11), .inr (12, [.ref sa, .int (nI pn), .int (nI tl), .ref wa]))) → (ML wa = some ((9, 10), .inr (11, [.ref fa]))) → (ML fa = some ((0, 1), .inr (8, [.int id, .int (bI rm), .int (nI ln), .int da, .int od]))) → (ML sa = some ((9, 12), .inr (3, [.int la, .int (nI ru)]))) → gFr (gT (tgR 9 8 16)) M ML → gJ p l e ({ frames := 6, cells := 220, slots := 500, locals := 125 } : Room) s m ([.ref wa, .int (nI i)] : List Value).toArray below meth c G 5 (MQ below (gQi G (fun r9 M9 k9 => r9 = (obT (frBT id rm ln da) (byF rm ln + 34) (nI i) (2 * (byF rm ln + 34) + 2) 0 0 0 (-1)) ∧ gFr (gT (tgR 9 8 16)) M M9 ∧ k9 ≤ 220)) ([.ref wa, .int (nI i)] : List Value).toArray s 220 500 (gA G)) (n + 2) (2 * n + 20) ML 7 [(0, .ref wa), (1, .int (nI i)), (2, .int (nI j)), (3, .ref it)] [] := by
    intro n9
    induction n9 with
    | zero => intro F n pn tl ru la it sa j ML hw hj hmu; exact absurd hmu (Nat.not_lt_zero _)
    | succ n9 ih =>
      intro F n pn tl ru la it sa j ML hw hj hmu hL_0 hL_1 hL_2 hL_3 hLF
      have hw9 := hw
      obtain ⟨⟨hb1, hru, htl, hb4, hb5⟩, hla, -⟩ := hw9
      have hpn : pn ≤ 70 := by omega
      have hn200 : n ≤ 200 := by omega
      refine g_aload_n hC dX15_bit_7 3 rfl gRef_r 8 rfl ?_
      refine g_callFiP (g_F (n := 0) (As := []) (rest := []) hC ⟨by decide +kernel, q1264, q1266, q164, q1268, by decide +kernel⟩ q2603 (gOf.of hC.K cI12 hL_0) (hC.at cI12) (met_Wi_hasNext l G ML it wa fa sa id rm ln da od pn tl la ru hln (by first | assumption | decide | omega | (dsimp only; omega) | simp_all) (by first | assumption | decide | omega | (dsimp only; omega) | simp_all) (by first | assumption | decide | omega | (dsimp only; omega) | simp_all) hL_0 hL_1 hL_2 hL_3) ⟨rfl, rfl⟩ ⟨(Nat.le_of_ble_eq_true rfl), (Nat.le_of_ble_eq_true rfl)⟩ rfl (Nat.le_of_ble_eq_true rfl) dX15_bit_8 rfl ⟨(by first | omega | (dsimp only; omega)), (by first | omega | (dsimp only; omega))⟩) 13 rfl (2 * n + 20) (by first | omega | (dsimp only; omega)) ?_
      refine g_if_eq hC dX15_bit_13 43 rfl 16 rfl (fun c_11 => ?_) (fun c_11 => ?_)
      · replace c_11 := bId_0 c_11
        refine g_bipush hC dX15_bit_43 kb_m5 45 rfl ?_
        exact g_iret (v := -5) hC (fun k9 hk9 => ⟨(by have h9 := wOk.fin hw c_11; rw [if_neg (nI_pos (by omega)), if_neg (fun q9 => by have := nn_lt (by omega) (by omega) q9; omega)] at h9; exact h9), hLF, (by first | exact Nat.le_zero.mp hk9 | omega)⟩) dX15_bit_45 (by first | omega | (dsimp only; omega)) (by first | omega | (dsimp only; omega))
      · replace c_11 := bId_1 c_11
        refine g_aload_n hC dX15_bit_16 3 rfl gRef_r 17 rfl ?_
        refine g_callFq (g_F (n := 0) (As := []) (rest := []) hC ⟨by decide +kernel, q1344, q1346, q164, q1348, by decide +kernel⟩ q2605 (gOf.of hC.K cI12 hL_0) (hC.at cI12) (met_Wi_next l G ML it wa fa sa id rm ln da od pn tl la ru hln (by first | assumption | decide | omega | (dsimp only; omega) | simp_all) (by first | assumption | decide | omega | (dsimp only; omega) | simp_all) (by first | assumption | decide | omega | (dsimp only; omega) | simp_all) (by first | assumption | decide | omega | (dsimp only; omega) | simp_all) hL_0 hL_1 hL_2 hL_3) ⟨rfl, rfl⟩ ⟨(Nat.le_of_ble_eq_true rfl), (Nat.le_of_ble_eq_true rfl)⟩ rfl (Nat.le_of_ble_eq_true rfl) dX15_bit_17 rfl ⟨(by first | omega | (dsimp only; omega)), (by first | omega | (dsimp only; omega))⟩) (n + 2 + 1) (by first | omega | (dsimp only; omega)) (2 * n + 20 + 1) (by first | omega | (dsimp only; omega)) 22 rfl (fun r15 M12 k13 hp14 => ?_)
        obtain ⟨a9_16, rfl, hc17, hc18, hF19, hq20, hk21⟩ := hp14
        refine g_castS hC (hC.at cI28) (gOf.box hC.K hq20) q2606 dX15_bit_22 25 rfl ?_
        refine g_astore hC dX15_bit_25 gRef_r (Nat.le_of_ble_eq_true rfl) [(4, .ref a9_16), (0, .ref wa), (1, .int (nI i)), (2, .int (nI j)), (3, .ref it)] rfl 27 rfl ?_
        refine g_iload_n hC dX15_bit_27 3 rfl 28 rfl ?_
        refine g_if_ne hC dX15_bit_28 37 rfl 31 rfl (fun c_22 => ?_) (fun c_22 => ?_)
        · replace c_22 : ¬ j = 0 := nn_neq (by omega) (by omega) c_22
          refine g_iinc hC dX15_bit_37 3 rfl (v := nI (j - 1)) (by rw [ki_m1]; exact nI_d (a := j) (c := (j - 1)) (by omega)) (Nat.le_of_ble_eq_true rfl) [(2, .int (nI (j - 1))), (4, .ref a9_16), (0, .ref wa), (1, .int (nI i)), (3, .ref it)] rfl 40 rfl ?_
          refine g_goto hC dX15_bit_40 7 rfl ?_
          refine gJ.sub (M' := M12) [2, 3, 0, 4] rfl ?_
          refine gJ.widen (k := (n + 1) + 2) (n := 2 * (n + 1) + 20) (by first | omega | (dsimp only; omega)) (by first | omega | (dsimp only; omega)) ?_
          exact ih (wF (byF rm ln + 34) pn ru F) (n + 1) (wPn (byF rm ln + 34) pn ru) (wTl (byF rm ln + 34) pn ru tl) (wRu (frBT id rm ln da) (byF rm ln + 34) pn ru la) (wLa (frBT id rm ln da) (byF rm ln + 34) pn ru la) it sa (j - 1) M12 (wOk.step hw (fun p => frBT_01) (fun q9 => by have := nn_eq (by omega) (by omega) q9; omega) c_11) (by omega) (by have hwm := c_11; have hwx := hw.2.2; unfold wF wTl; split <;> omega) hc17 (hF19 _ _ _ hL_1 (gno (gne_c hL_1 hL_0 (by decide)) (gno (gne_c hL_1 hL_3 (by decide)) gno0))) (hF19 _ _ _ hL_2 (gno (gne_c hL_2 hL_0 (by decide)) (gno (gne_c hL_2 hL_3 (by decide)) gno0))) hc18 (hLF.trans (gFr.refl.trf hF19 (fun b t e hb hn => (gno (gne_t (gFr.refl b t e hb hn) hL_0 (fun q => hn (by rw [q]; exact (show (tgR 9 8 16) (9, 11) by (try simp only [ndT, tgE, gT, tgR, ndT9, ndW, tg0, Prod.mk.injEq, true_and, and_true, cpyT]); first | done | omega | (simp; done))))) (gno (gne_t (gFr.refl b t e hb hn) hL_3 (fun q => hn (by rw [q]; exact (show (tgR 9 8 16) (9, 12) by (try simp only [ndT, tgE, gT, tgR, ndT9, ndW, tg0, Prod.mk.injEq, true_and, and_true, cpyT]); first | done | omega | (simp; done))))) gno0)))))
        · replace c_22 : j = 0 := nn_eq (by omega) (by omega) c_22
          refine g_aload hC dX15_bit_31 0 rfl gRef_r 33 rfl ?_
          refine g_calliP (g_V (As := []) (rest := []) hC mvJ11_intValue q2607 (gOf.box hC.K hq20) (met_intValue l G M12 a9_16 (wLev (frBT id rm ln da) (byF rm ln + 34) pn ru la) hq20) ⟨rfl, rfl⟩ ⟨(Nat.le_of_ble_eq_true rfl), (Nat.le_of_ble_eq_true rfl)⟩ rfl (Nat.le_of_ble_eq_true rfl) dX15_bit_33 rfl ⟨(by first | omega | (dsimp only; omega)), (by first | omega | (dsimp only; omega))⟩) 36 rfl (2 * n + 20 + 1) (by first | omega | (dsimp only; omega)) ?_
          exact g_iret (v := wLev (frBT id rm ln da) (byF rm ln + 34) pn ru la) hC (fun k9 hk9 => ⟨(wOk.hit hw (by omega) (by rw [show n = i by omega]) c_11), (hLF.trans (gFr.refl.trf hF19 (fun b t e hb hn => (gno (gne_t (gFr.refl b t e hb hn) hL_0 (fun q => hn (by rw [q]; exact (show (tgR 9 8 16) (9, 11) by (try simp only [ndT, tgE, gT, tgR, ndT9, ndW, tg0, Prod.mk.injEq, true_and, and_true, cpyT]); first | done | omega | (simp; done))))) (gno (gne_t (gFr.refl b t e hb hn) hL_3 (fun q => hn (by rw [q]; exact (show (tgR 9 8 16) (9, 12) by (try simp only [ndT, tgE, gT, tgR, ndT9, ndW, tg0, Prod.mk.injEq, true_and, and_true, cpyT]); first | done | omega | (simp; done))))) gno0))))), (by first | exact Nat.le_zero.mp hk9 | omega)⟩) dX15_bit_36 (by first | omega | (dsimp only; omega)) (by first | omega | (dsimp only; omega))
  refine gJ.sub (M' := M1) [2, 3, 1, 0] rfl ?_
  refine gJ.widen (k := 0 + 2) (n := 2 * 0 + 20) (by first | omega | (dsimp only; omega)) (by first | omega | (dsimp only; omega)) ?_
  exact loop7 _ (2 * (byF rm ln + 34) + 2) 0 0 0 0 (-1) it_5 sa_6 i M1 wOk.i (by omega) (Nat.lt_succ_self _) hc7 (hF9 _ _ _ hM_0 gno0) (hF9 _ _ _ hM_1 gno0) hc8 (gFr.refl.trf hF9 (fun b t e hb hn => gno0))
