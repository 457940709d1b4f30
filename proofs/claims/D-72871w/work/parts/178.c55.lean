/-! the wire: constructor, iterator, isStuffed, hasNext -/
set_option maxRecDepth 100000
set_option maxHeartbeats 4000000 in
theorem met_W_init (l : Launch) (G : gG) (M : gM) (wa : Nat) (t : Nat × Nat) (fa : Nat)  (hM_0 : M wa = some (t, .inr (11, [.null]))) : Met l yX15_init (ws_ yX15_init cX15_init 2 none) ({ frames := 1, cells := 0, slots := 0, locals := 12 }) (gPc G [.ref wa, .ref fa] M) (gQv G (fun M9 k9 => M9 wa = some (t, .inr (11, [.ref fa])) ∧ gFr (gL [wa]) M M9 ∧ k9 = 0)) 0 0 (gA G) := by
  refine gMet [(0, .ref wa), (1, .ref fa)] (by decide) (Nat.le_of_ble_eq_true rfl) rfl ?_
  intro p e s m below meth c hC
  refine g_aload_n hC dX15_init_0 0 rfl gRef_r 1 rfl ?_
  refine g_objInit hC q2568 q176 q177 dX15_init_1 (Nat.le_of_ble_eq_true rfl) (Nat.le_of_ble_eq_true rfl) 4 rfl ?_
  refine g_aload_n hC dX15_init_4 0 rfl gRef_r 5 rfl ?_
  refine g_aload_n hC dX15_init_5 1 rfl gRef_r 6 rfl ?_
  refine g_putF hC cI11 hM_0 0 (Nat.le_of_ble_eq_true rfl) q2569 rfl rfl rfl rfl (Nat.le_of_ble_eq_true rfl) dX15_init_6 (fs' := [.ref fa]) rfl 9 rfl (fun M1 hU2 => ?_)
  exact g_vret hC (fun k9 hk9 => ⟨hU2.1, (gFr.refl.up hU2 hM_0 (by simp)), (by first | exact Nat.le_zero.mp hk9 | omega)⟩) dX15_init_9 (Nat.le_of_ble_eq_true rfl) (Nat.le_of_ble_eq_true rfl)
set_option maxHeartbeats 4000000 in
theorem met_Wi_isStuffed (l : Launch) (G : gG) (M : gM) (it : Nat) (wa : Nat) (fa : Nat) (sa : Nat) (id : Int32) (rm : Bool) (ln : Nat) (da : Int32) (od : Int32) (pn : Nat) (tl : Nat) (la : Int32) (ru : Nat) (hln : ln ≤ 4) (hpn : pn ≤ 70) (hru : ru ≤ 5) (htl : tl ≤ 10) (hM_0 : M it = some ((9, 11), .inr (12, [.ref sa, .int (nI pn), .int (nI tl), .ref wa]))) (hM_1 : M wa = some ((9, 10), .inr (11, [.ref fa]))) (hM_2 : M fa = some ((0, 1), .inr (8, [.int id, .int (bI rm), .int (nI ln), .int da, .int od]))) (hM_3 : M sa = some ((9, 12), .inr (3, [.int la, .int (nI ru)]))) : Met l yX16_isStuffed (ws_ yX16_isStuffed cX16_isStuffed 1 (some .boolean)) ({ frames := 2, cells := 0, slots := 0, locals := 40 }) (gPc G [.ref it] M) (gQi G (fun r9 M9 k9 => r9 = (bI (decide (pn < byF rm ln + 34 ∨ ru = 5))) ∧ M9 = M ∧ k9 = 0)) 0 0 (gA G) := by
  refine gMet [(0, .ref it)] (by decide) (Nat.le_of_ble_eq_true rfl) rfl ?_
  intro p e s m below meth c hC
  have hby := byF_le (rm := rm) hln
  have hr5 : (nI ru = 5) ↔ ru = 5 := nI_eq (b := 5) (by omega) (by decide)
  refine g_aload_n hC dX16_isStuffed_0 0 rfl gRef_r 1 rfl ?_
  refine g_get (v := .int (nI pn)) hC cI12 hM_0 1 (Nat.le_of_ble_eq_true rfl) q2590 rfl dX16_isStuffed_1 4 rfl ?_
  refine g_aload_n hC dX16_isStuffed_4 0 rfl gRef_r 5 rfl ?_
  refine g_get (v := .ref wa) hC cI12 hM_0 3 (Nat.le_of_ble_eq_true rfl) q2592 rfl dX16_isStuffed_5 8 rfl ?_
  refine g_getN (v := .ref fa) hC cI11 hM_1 0 (Nat.le_of_ble_eq_true rfl) q2570 rfl dX16_isStuffed_8 11 rfl ?_
  refine g_calliP (g_V (As := []) (rest := [.int (nI pn)]) hC mvX9_basic q1274 (gOf.of hC.K cI8 hM_2) (met_Fr_basicN l G M fa (0, 1) id rm ln da od hln hM_2) ⟨rfl, rfl⟩ ⟨(Nat.le_of_ble_eq_true rfl), (Nat.le_of_ble_eq_true rfl)⟩ rfl (Nat.le_of_ble_eq_true rfl) dX16_isStuffed_11 rfl ⟨(Nat.le_of_ble_eq_true rfl), (Nat.le_of_ble_eq_true rfl)⟩) 14 rfl 0 (Nat.le_of_ble_eq_true rfl) ?_
  refine g_icmp_lt hC dX16_isStuffed_14 27 rfl 17 rfl (fun c_1 => ?_) (fun c_1 => ?_)
  · replace c_1 : pn < byF rm ln + 34 := nn_lt (by omega) (by omega) c_1
    refine g_iconst hC dX16_isStuffed_27 ki_1 28 rfl ?_
    refine g_goto hC dX16_isStuffed_28 32 rfl ?_
    exact g_zret (v := 1) hC (by decide) (fun k9 hk9 => ⟨(bI_d (by first | omega | (rw [hr5] at *; omega) | simp_all)), rfl, Nat.le_zero.mp hk9⟩) dX16_isStuffed_32 (Nat.le_of_ble_eq_true rfl) (Nat.le_of_ble_eq_true rfl)
  · replace c_1 : byF rm ln + 34 ≤ pn := nn_nlt (by omega) (by omega) c_1
    refine g_aload_n hC dX16_isStuffed_17 0 rfl gRef_r 18 rfl ?_
    refine g_get (v := .ref sa) hC cI12 hM_0 0 (Nat.le_of_ble_eq_true rfl) q2589 rfl dX16_isStuffed_18 21 rfl ?_
    refine g_calliP (g_V (As := []) (rest := []) hC mvX4_isDue q1282 (gOf.of hC.K cI3 hM_3) (met_St_isDue l G M sa (9, 12) la (nI ru) hM_3) ⟨rfl, rfl⟩ ⟨(Nat.le_of_ble_eq_true rfl), (Nat.le_of_ble_eq_true rfl)⟩ rfl (Nat.le_of_ble_eq_true rfl) dX16_isStuffed_21 rfl ⟨(Nat.le_of_ble_eq_true rfl), (Nat.le_of_ble_eq_true rfl)⟩) 24 rfl 0 (Nat.le_of_ble_eq_true rfl) ?_
    refine g_if_eq hC dX16_isStuffed_24 31 rfl 27 rfl (fun c_2 => ?_) (fun c_2 => ?_)
    · replace c_2 := bId_0 c_2
      refine g_iconst hC dX16_isStuffed_31 ki_0 32 rfl ?_
      exact g_zret (v := 0) hC (by decide) (fun k9 hk9 => ⟨(bI_nd (by first | omega | (rw [hr5] at *; omega) | simp_all)), rfl, Nat.le_zero.mp hk9⟩) dX16_isStuffed_32 (Nat.le_of_ble_eq_true rfl) (Nat.le_of_ble_eq_true rfl)
    · replace c_2 := bId_1 c_2
      refine g_iconst hC dX16_isStuffed_27 ki_1 28 rfl ?_
      refine g_goto hC dX16_isStuffed_28 32 rfl ?_
      exact g_zret (v := 1) hC (by decide) (fun k9 hk9 => ⟨(bI_d (by first | omega | (rw [hr5] at *; omega) | simp_all)), rfl, Nat.le_zero.mp hk9⟩) dX16_isStuffed_32 (Nat.le_of_ble_eq_true rfl) (Nat.le_of_ble_eq_true rfl)
