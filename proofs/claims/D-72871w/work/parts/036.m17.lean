/-! the reference: periodic messages -/
set_option maxRecDepth 100000
set_option maxHeartbeats 4000000 in
theorem met_T_messageOf_n (l : Launch) (G : gG) (M : gM) (o : Nat) (av : Nat) (asp : Nat) (ak : Nat) (aik : Nat) (atx : Nat) (le : Int32) (am : Nat) (mc : Nat) (aa : Nat) (pl : Int32) (ato : Nat) (g : Nat → Int32) (x : Int32) (hmc : mc ≤ 8) (hno : ∀ i, i < mc → ¬ g (4 * i) = x) (hM_0 : M o = some ((1, 0), .inr (7, [.ref av, .ref asp, .ref ak, .ref aik, .ref atx, .int le, .ref am, .int (nI mc), .ref aa, .int pl, .ref ato]))) (hM_1 : M am = some ((1, 6), .inl (gcs G 0, 32, .inl g))) : Met l yX8_messageOf (ws_ yX8_messageOf cX8_messageOf 3 (some .int)) ({ frames := 0, cells := 0, slots := 0, locals := 0 }) (gPc G [.ref o, .int x] M) (gQi G (fun r9 M9 k9 => r9 = (-1) ∧ M9 = M ∧ k9 = 0)) 0 0 (gA G) := by
  refine gMet [(0, .ref o), (1, .int x)] (by decide) (Nat.le_of_ble_eq_true rfl) rfl ?_
  intro p e s m below meth c hC
  refine g_iconst hC dX8_messageOf_0 ki_0 1 rfl ?_
  refine g_istore_n hC dX8_messageOf_1 rfl (Nat.le_of_ble_eq_true rfl) [(2, .int 0), (0, .ref o), (1, .int x)] rfl 2 rfl ?_
  have loop2 : ∀ (n9 : Nat) (i : Nat), (hi : i ≤ mc) → mc - i < n9 → (M o = some ((1, 0), .inr (7, [.ref av, .ref asp, .ref ak, .ref aik, .ref atx, .int le, .ref am, .int (nI mc), .ref aa, .int pl, .ref ato]))) → (M am = some ((1, 6), .inl (gcs G 0, 32, .inl g))) → gJ p l e ({ frames := 0, cells := 0, slots := 0, locals := 0 } : Room) s m ([.ref o, .int x] : List Value).toArray below meth c G 3 (MQ below (gQi G (fun r9 M9 k9 => r9 = (-1) ∧ M9 = M ∧ k9 = 0)) ([.ref o, .int x] : List Value).toArray s 0 0 (gA G)) 0 0 M 2 [(0, .ref o), (1, .int x), (2, .int (nI i))] [] := by
    intro n9
    induction n9 with
    | zero => intro i hi hmu; exact absurd hmu (Nat.not_lt_zero _)
    | succ n9 ih =>
      intro i hi hmu hL_0 hL_1
      refine g_iload_n hC dX8_messageOf_2 2 rfl 3 rfl ?_
      refine g_aload_n hC dX8_messageOf_3 0 rfl gRef_r 4 rfl ?_
      refine g_get (v := .int (nI mc)) hC cI7 hL_0 7 (Nat.le_of_ble_eq_true rfl) q2949 rfl dX8_messageOf_4 7 rfl ?_
      refine g_icmp_ge hC dX8_messageOf_7 30 rfl 10 rfl (fun c_1 => ?_) (fun c_1 => ?_)
      · replace c_1 : mc ≤ i := nn_le (by omega) (by omega) c_1
        refine g_iconst hC dX8_messageOf_30 ki_m1 31 rfl ?_
        exact g_iret (v := -1) hC (fun k9 hk9 => ⟨rfl, rfl, Nat.le_zero.mp hk9⟩) dX8_messageOf_31 (Nat.le_of_ble_eq_true rfl) (Nat.le_of_ble_eq_true rfl)
      · replace c_1 : i < mc := nn_nle (by omega) (by omega) c_1
        refine g_aload_n hC dX8_messageOf_10 0 rfl gRef_r 11 rfl ?_
        refine g_get (v := .ref am) hC cI7 hL_0 6 (Nat.le_of_ble_eq_true rfl) q2948 rfl dX8_messageOf_11 14 rfl ?_
        refine g_iconst hC dX8_messageOf_14 ki_4 15 rfl ?_
        refine g_iload_n hC dX8_messageOf_15 2 rfl 16 rfl ?_
        refine g_imul hC dX8_messageOf_16 17 rfl ?_
        refine g_topi (y := nI (4 * i)) (nI_m (a := 4) (b := i) (c := (4 * i)) (by omega)) ?_
        refine g_iald (v := g (4 * i)) hC hL_1 0 rfl (vp_in_nI (by omega) (by omega)) ((congrArg g (nI_clamp (by omega))).trans rfl) dX8_messageOf_17 18 rfl ?_
        refine g_iload_n hC dX8_messageOf_18 1 rfl 19 rfl ?_
        refine g_icmp_ne hC dX8_messageOf_19 24 rfl 22 rfl (fun c_2 => ?_) (fun c_2 => ?_)
        · refine g_iinc hC dX8_messageOf_24 2 rfl (v := nI (i + 1)) (by rw [ki_1]; exact nI_a (a := i) (b := 1) (c := (i + 1)) (by omega)) (Nat.le_of_ble_eq_true rfl) [(2, .int (nI (i + 1))), (0, .ref o), (1, .int x)] rfl 27 rfl ?_
          refine g_goto hC dX8_messageOf_27 2 rfl ?_
          refine gJ.sub (M' := M) [1, 2, 0] rfl ?_
          exact ih (i + 1) (by omega) (by omega) hL_0 hL_1
        · exact absurd c_2 (hno i (by omega))
  refine gJ.sub (M' := M) [1, 2, 0] rfl ?_
  exact loop2 _ 0 (by omega) (Nat.lt_succ_self _) hM_0 hM_1
set_option maxHeartbeats 4000000 in
theorem met_T_messageOf (l : Launch) (G : gG) (M : gM) (o : Nat) (av : Nat) (asp : Nat) (ak : Nat) (aik : Nat) (atx : Nat) (le : Int32) (am : Nat) (mc : Nat) (aa : Nat) (pl : Int32) (ato : Nat) (g : Nat → Int32) (x : Int32) (ai : Nat) (hmc : mc ≤ 8) (hai : ai < mc) (hax : g (4 * ai) = x) (hbf : ∀ i, i < ai → ¬ g (4 * i) = x) (hM_0 : M o = some ((1, 0), .inr (7, [.ref av, .ref asp, .ref ak, .ref aik, .ref atx, .int le, .ref am, .int (nI mc), .ref aa, .int pl, .ref ato]))) (hM_1 : M am = some ((1, 6), .inl (gcs G 0, 32, .inl g))) : Met l yX8_messageOf (ws_ yX8_messageOf cX8_messageOf 3 (some .int)) ({ frames := 0, cells := 0, slots := 0, locals := 0 }) (gPc G [.ref o, .int x] M) (gQi G (fun r9 M9 k9 => r9 = (nI ai) ∧ M9 = M ∧ k9 = 0)) 0 0 (gA G) := by
  refine gMet [(0, .ref o), (1, .int x)] (by decide) (Nat.le_of_ble_eq_true rfl) rfl ?_
  intro p e s m below meth c hC
  refine g_iconst hC dX8_messageOf_0 ki_0 1 rfl ?_
  refine g_istore_n hC dX8_messageOf_1 rfl (Nat.le_of_ble_eq_true rfl) [(2, .int 0), (0, .ref o), (1, .int x)] rfl 2 rfl ?_
  have loop2 : ∀ (n9 : Nat) (i : Nat), (hi : i ≤ ai) → mc - i < n9 → (M o = some ((1, 0), .inr (7, [.ref av, .ref asp, .ref ak, .ref aik, .ref atx, .int le, .ref am, .int (nI mc), .ref aa, .int pl, .ref ato]))) → (M am = some ((1, 6), .inl (gcs G 0, 32, .inl g))) → gJ p l e ({ frames := 0, cells := 0, slots := 0, locals := 0 } : Room) s m ([.ref o, .int x] : List Value).toArray below meth c G 3 (MQ below (gQi G (fun r9 M9 k9 => r9 = (nI ai) ∧ M9 = M ∧ k9 = 0)) ([.ref o, .int x] : List Value).toArray s 0 0 (gA G)) 0 0 M 2 [(0, .ref o), (1, .int x), (2, .int (nI i))] [] := by
    intro n9
    induction n9 with
    | zero => intro i hi hmu; exact absurd hmu (Nat.not_lt_zero _)
    | succ n9 ih =>
      intro i hi hmu hL_0 hL_1
      refine g_iload_n hC dX8_messageOf_2 2 rfl 3 rfl ?_
      refine g_aload_n hC dX8_messageOf_3 0 rfl gRef_r 4 rfl ?_
      refine g_get (v := .int (nI mc)) hC cI7 hL_0 7 (Nat.le_of_ble_eq_true rfl) q2949 rfl dX8_messageOf_4 7 rfl ?_
      refine g_icmp_ge hC dX8_messageOf_7 30 rfl 10 rfl (fun c_1 => ?_) (fun c_1 => ?_)
      · replace c_1 : mc ≤ i := nn_le (by omega) (by omega) c_1
        exact absurd hi (by omega)
      · replace c_1 : i < mc := nn_nle (by omega) (by omega) c_1
        refine g_aload_n hC dX8_messageOf_10 0 rfl gRef_r 11 rfl ?_
        refine g_get (v := .ref am) hC cI7 hL_0 6 (Nat.le_of_ble_eq_true rfl) q2948 rfl dX8_messageOf_11 14 rfl ?_
        refine g_iconst hC dX8_messageOf_14 ki_4 15 rfl ?_
        refine g_iload_n hC dX8_messageOf_15 2 rfl 16 rfl ?_
        refine g_imul hC dX8_messageOf_16 17 rfl ?_
        refine g_topi (y := nI (4 * i)) (nI_m (a := 4) (b := i) (c := (4 * i)) (by omega)) ?_
        refine g_iald (v := g (4 * i)) hC hL_1 0 rfl (vp_in_nI (by omega) (by omega)) ((congrArg g (nI_clamp (by omega))).trans rfl) dX8_messageOf_17 18 rfl ?_
        refine g_iload_n hC dX8_messageOf_18 1 rfl 19 rfl ?_
        refine g_icmp_ne hC dX8_messageOf_19 24 rfl 22 rfl (fun c_2 => ?_) (fun c_2 => ?_)
        · refine g_iinc hC dX8_messageOf_24 2 rfl (v := nI (i + 1)) (by rw [ki_1]; exact nI_a (a := i) (b := 1) (c := (i + 1)) (by omega)) (Nat.le_of_ble_eq_true rfl) [(2, .int (nI (i + 1))), (0, .ref o), (1, .int x)] rfl 27 rfl ?_
          refine g_goto hC dX8_messageOf_27 2 rfl ?_
          refine gJ.sub (M' := M) [1, 2, 0] rfl ?_
          exact ih (i + 1) (by rcases Nat.lt_or_eq_of_le hi with q | q; exact q; subst q; exact absurd hax c_2) (by omega) hL_0 hL_1
        · refine g_iload_n hC dX8_messageOf_22 2 rfl 23 rfl ?_
          exact g_iret (v := nI i) hC (fun k9 hk9 => ⟨(by rcases Nat.lt_or_eq_of_le hi with q | q; exact absurd c_2 (hbf i q); rw [q]), rfl, Nat.le_zero.mp hk9⟩) dX8_messageOf_23 (Nat.le_of_ble_eq_true rfl) (Nat.le_of_ble_eq_true rfl)
  refine gJ.sub (M' := M) [1, 2, 0] rfl ?_
  exact loop2 _ 0 (by omega) (Nat.lt_succ_self _) hM_0 hM_1
abbrev okP (x ln pe ji : Int32) : Prop := ((0 ≤ x ∧ x ≤ 2047) ∧ (0 ≤ ln ∧ ln ≤ 4)) ∧ (1 ≤ pe ∧ pe ≤ 5000) ∧ (0 ≤ ji ∧ ji ≤ 500)
def msW (g : Nat → Int32) (i : Nat) (x ln pe ji : Int32) : Nat → Int32 := upd (upd (upd (upd g (4 * i) x) (4 * i + 1) ln) (4 * i + 2) pe) (4 * i + 3) ji
set_option maxHeartbeats 4000000 in
theorem met_T_addMessage_b (l : Launch) (G : gG) (M : gM) (o : Nat) (av : Nat) (asp : Nat) (ak : Nat) (aik : Nat) (atx : Nat) (le : Int32) (am : Nat) (mc : Nat) (aa : Nat) (pl : Int32) (ato : Nat) (g : Nat → Int32) (x : Int32) (ln : Int32) (pe : Int32) (ji : Int32) (hmc : mc ≤ 8) (hP : ¬ okP x ln pe ji) (hM_0 : M o = some ((1, 0), .inr (7, [.ref av, .ref asp, .ref ak, .ref aik, .ref atx, .int le, .ref am, .int (nI mc), .ref aa, .int pl, .ref ato]))) (hM_1 : M am = some ((1, 6), .inl (gcs G 0, 32, .inl g))) : Met l yX8_addMessage (ws_ yX8_addMessage cX8_addMessage 6 (some .int)) ({ frames := 1, cells := 0, slots := 0, locals := 22 }) (gPc G [.ref o, .int x, .int ln, .int pe, .int ji] M) (gQi G (fun r9 M9 k9 => r9 = (-2) ∧ M9 = M ∧ k9 = 0)) 0 0 (gA G) := by
  refine gMet [(0, .ref o), (1, .int x), (2, .int ln), (3, .int pe), (4, .int ji)] (by decide) (Nat.le_of_ble_eq_true rfl) rfl ?_
  intro p e s m below meth c hC
  refine g_iload_n hC dX8_addMessage_0 1 rfl 1 rfl ?_
  refine g_iconst hC dX8_addMessage_1 ki_0 2 rfl ?_
  refine g_sipush hC dX8_addMessage_2 ks_2047 5 rfl ?_
  refine g_calliP (g_S (As := [.int x, .int 0, .int 2047]) (rest := []) hC msX8_in q2984 (met_T_in l G M x 0 2047) ⟨rfl, rfl⟩ ⟨(Nat.le_of_ble_eq_true rfl), (Nat.le_of_ble_eq_true rfl)⟩ rfl (Nat.le_of_ble_eq_true rfl) dX8_addMessage_5 rfl ⟨(Nat.le_of_ble_eq_true rfl), (Nat.le_of_ble_eq_true rfl)⟩) 8 rfl 0 (Nat.le_of_ble_eq_true rfl) ?_
  refine g_if_eq hC dX8_addMessage_8 43 rfl 11 rfl (fun c_1 => ?_) (fun c_1 => ?_)
  · replace c_1 := bId_0 c_1
    refine g_bipush hC dX8_addMessage_43 kb_m2 45 rfl ?_
    exact g_iret (v := -2) hC (fun k9 hk9 => ⟨rfl, rfl, Nat.le_zero.mp hk9⟩) dX8_addMessage_45 (Nat.le_of_ble_eq_true rfl) (Nat.le_of_ble_eq_true rfl)
  · replace c_1 := bId_1 c_1
    refine g_iload_n hC dX8_addMessage_11 2 rfl 12 rfl ?_
    refine g_iconst hC dX8_addMessage_12 ki_0 13 rfl ?_
    refine g_iconst hC dX8_addMessage_13 ki_4 14 rfl ?_
    refine g_calliP (g_S (As := [.int ln, .int 0, .int 4]) (rest := []) hC msX8_in q2984 (met_T_in l G M ln 0 4) ⟨rfl, rfl⟩ ⟨(Nat.le_of_ble_eq_true rfl), (Nat.le_of_ble_eq_true rfl)⟩ rfl (Nat.le_of_ble_eq_true rfl) dX8_addMessage_14 rfl ⟨(Nat.le_of_ble_eq_true rfl), (Nat.le_of_ble_eq_true rfl)⟩) 17 rfl 0 (Nat.le_of_ble_eq_true rfl) ?_
    refine g_if_eq hC dX8_addMessage_17 43 rfl 20 rfl (fun c_2 => ?_) (fun c_2 => ?_)
    · replace c_2 := bId_0 c_2
      refine g_bipush hC dX8_addMessage_43 kb_m2 45 rfl ?_
      exact g_iret (v := -2) hC (fun k9 hk9 => ⟨rfl, rfl, Nat.le_zero.mp hk9⟩) dX8_addMessage_45 (Nat.le_of_ble_eq_true rfl) (Nat.le_of_ble_eq_true rfl)
    · replace c_2 := bId_1 c_2
      refine g_iload_n hC dX8_addMessage_20 3 rfl 21 rfl ?_
      refine g_iconst hC dX8_addMessage_21 ki_1 22 rfl ?_
      refine g_sipush hC dX8_addMessage_22 ks_5000 25 rfl ?_
      refine g_calliP (g_S (As := [.int pe, .int 1, .int 5000]) (rest := []) hC msX8_in q2984 (met_T_in l G M pe 1 5000) ⟨rfl, rfl⟩ ⟨(Nat.le_of_ble_eq_true rfl), (Nat.le_of_ble_eq_true rfl)⟩ rfl (Nat.le_of_ble_eq_true rfl) dX8_addMessage_25 rfl ⟨(Nat.le_of_ble_eq_true rfl), (Nat.le_of_ble_eq_true rfl)⟩) 28 rfl 0 (Nat.le_of_ble_eq_true rfl) ?_
      refine g_if_eq hC dX8_addMessage_28 43 rfl 31 rfl (fun c_3 => ?_) (fun c_3 => ?_)
      · replace c_3 := bId_0 c_3
        refine g_bipush hC dX8_addMessage_43 kb_m2 45 rfl ?_
        exact g_iret (v := -2) hC (fun k9 hk9 => ⟨rfl, rfl, Nat.le_zero.mp hk9⟩) dX8_addMessage_45 (Nat.le_of_ble_eq_true rfl) (Nat.le_of_ble_eq_true rfl)
      · replace c_3 := bId_1 c_3
        refine g_iload hC dX8_addMessage_31 4 rfl 33 rfl ?_
        refine g_iconst hC dX8_addMessage_33 ki_0 34 rfl ?_
        refine g_sipush hC dX8_addMessage_34 ks_500 37 rfl ?_
        refine g_calliP (g_S (As := [.int ji, .int 0, .int 500]) (rest := []) hC msX8_in q2984 (met_T_in l G M ji 0 500) ⟨rfl, rfl⟩ ⟨(Nat.le_of_ble_eq_true rfl), (Nat.le_of_ble_eq_true rfl)⟩ rfl (Nat.le_of_ble_eq_true rfl) dX8_addMessage_37 rfl ⟨(Nat.le_of_ble_eq_true rfl), (Nat.le_of_ble_eq_true rfl)⟩) 40 rfl 0 (Nat.le_of_ble_eq_true rfl) ?_
        refine g_if_ne hC dX8_addMessage_40 46 rfl 43 rfl (fun c_4 => ?_) (fun c_4 => ?_)
        · replace c_4 := bId_1 c_4
          exact absurd ⟨⟨c_1, c_2⟩, c_3, c_4⟩ hP
        · replace c_4 := bId_0 c_4
          refine g_bipush hC dX8_addMessage_43 kb_m2 45 rfl ?_
          exact g_iret (v := -2) hC (fun k9 hk9 => ⟨rfl, rfl, Nat.le_zero.mp hk9⟩) dX8_addMessage_45 (Nat.le_of_ble_eq_true rfl) (Nat.le_of_ble_eq_true rfl)
set_option maxHeartbeats 4000000 in
theorem met_T_addMessage_f (l : Launch) (G : gG) (M : gM) (o : Nat) (av : Nat) (asp : Nat) (ak : Nat) (aik : Nat) (atx : Nat) (le : Int32) (am : Nat) (mc : Nat) (aa : Nat) (pl : Int32) (ato : Nat) (g : Nat → Int32) (x : Int32) (ln : Int32) (pe : Int32) (ji : Int32) (hmc : mc ≤ 8) (hP : okP x ln pe ji) (hno : ∀ i, i < mc → ¬ g (4 * i) = x) (h8 : mc = 8) (hM_0 : M o = some ((1, 0), .inr (7, [.ref av, .ref asp, .ref ak, .ref aik, .ref atx, .int le, .ref am, .int (nI mc), .ref aa, .int pl, .ref ato]))) (hM_1 : M am = some ((1, 6), .inl (gcs G 0, 32, .inl g))) : Met l yX8_addMessage (ws_ yX8_addMessage cX8_addMessage 6 (some .int)) ({ frames := 1, cells := 0, slots := 0, locals := 22 }) (gPc G [.ref o, .int x, .int ln, .int pe, .int ji] M) (gQi G (fun r9 M9 k9 => r9 = (-3) ∧ M9 = M ∧ k9 = 0)) 0 0 (gA G) := by
  refine gMet [(0, .ref o), (1, .int x), (2, .int ln), (3, .int pe), (4, .int ji)] (by decide) (Nat.le_of_ble_eq_true rfl) rfl ?_
  intro p e s m below meth c hC
  refine g_iload_n hC dX8_addMessage_0 1 rfl 1 rfl ?_
  refine g_iconst hC dX8_addMessage_1 ki_0 2 rfl ?_
  refine g_sipush hC dX8_addMessage_2 ks_2047 5 rfl ?_
  refine g_calliP (g_S (As := [.int x, .int 0, .int 2047]) (rest := []) hC msX8_in q2984 (met_T_in l G M x 0 2047) ⟨rfl, rfl⟩ ⟨(Nat.le_of_ble_eq_true rfl), (Nat.le_of_ble_eq_true rfl)⟩ rfl (Nat.le_of_ble_eq_true rfl) dX8_addMessage_5 rfl ⟨(Nat.le_of_ble_eq_true rfl), (Nat.le_of_ble_eq_true rfl)⟩) 8 rfl 0 (Nat.le_of_ble_eq_true rfl) ?_
  refine g_if_eq hC dX8_addMessage_8 43 rfl 11 rfl (fun c_1 => ?_) (fun c_1 => ?_)
  · replace c_1 := bId_0 c_1
    exact absurd hP.1.1 c_1
  · replace c_1 := bId_1 c_1
    refine g_iload_n hC dX8_addMessage_11 2 rfl 12 rfl ?_
    refine g_iconst hC dX8_addMessage_12 ki_0 13 rfl ?_
    refine g_iconst hC dX8_addMessage_13 ki_4 14 rfl ?_
    refine g_calliP (g_S (As := [.int ln, .int 0, .int 4]) (rest := []) hC msX8_in q2984 (met_T_in l G M ln 0 4) ⟨rfl, rfl⟩ ⟨(Nat.le_of_ble_eq_true rfl), (Nat.le_of_ble_eq_true rfl)⟩ rfl (Nat.le_of_ble_eq_true rfl) dX8_addMessage_14 rfl ⟨(Nat.le_of_ble_eq_true rfl), (Nat.le_of_ble_eq_true rfl)⟩) 17 rfl 0 (Nat.le_of_ble_eq_true rfl) ?_
    refine g_if_eq hC dX8_addMessage_17 43 rfl 20 rfl (fun c_2 => ?_) (fun c_2 => ?_)
    · replace c_2 := bId_0 c_2
      exact absurd hP.1.2 c_2
    · replace c_2 := bId_1 c_2
      refine g_iload_n hC dX8_addMessage_20 3 rfl 21 rfl ?_
      refine g_iconst hC dX8_addMessage_21 ki_1 22 rfl ?_
      refine g_sipush hC dX8_addMessage_22 ks_5000 25 rfl ?_
      refine g_calliP (g_S (As := [.int pe, .int 1, .int 5000]) (rest := []) hC msX8_in q2984 (met_T_in l G M pe 1 5000) ⟨rfl, rfl⟩ ⟨(Nat.le_of_ble_eq_true rfl), (Nat.le_of_ble_eq_true rfl)⟩ rfl (Nat.le_of_ble_eq_true rfl) dX8_addMessage_25 rfl ⟨(Nat.le_of_ble_eq_true rfl), (Nat.le_of_ble_eq_true rfl)⟩) 28 rfl 0 (Nat.le_of_ble_eq_true rfl) ?_
      refine g_if_eq hC dX8_addMessage_28 43 rfl 31 rfl (fun c_3 => ?_) (fun c_3 => ?_)
      · replace c_3 := bId_0 c_3
        exact absurd hP.2.1 c_3
      · replace c_3 := bId_1 c_3
        refine g_iload hC dX8_addMessage_31 4 rfl 33 rfl ?_
        refine g_iconst hC dX8_addMessage_33 ki_0 34 rfl ?_
        refine g_sipush hC dX8_addMessage_34 ks_500 37 rfl ?_
        refine g_calliP (g_S (As := [.int ji, .int 0, .int 500]) (rest := []) hC msX8_in q2984 (met_T_in l G M ji 0 500) ⟨rfl, rfl⟩ ⟨(Nat.le_of_ble_eq_true rfl), (Nat.le_of_ble_eq_true rfl)⟩ rfl (Nat.le_of_ble_eq_true rfl) dX8_addMessage_37 rfl ⟨(Nat.le_of_ble_eq_true rfl), (Nat.le_of_ble_eq_true rfl)⟩) 40 rfl 0 (Nat.le_of_ble_eq_true rfl) ?_
        refine g_if_ne hC dX8_addMessage_40 46 rfl 43 rfl (fun c_4 => ?_) (fun c_4 => ?_)
        · replace c_4 := bId_1 c_4
          refine g_aload_n hC dX8_addMessage_46 0 rfl gRef_r 47 rfl ?_
          refine g_iload_n hC dX8_addMessage_47 1 rfl 48 rfl ?_
          refine g_calliP (g_V (As := [.int x]) (rest := []) hC mvX8_messageOf q3315 (gOf.of hC.K cI7 hM_0) (met_T_messageOf_n l G M o av asp ak aik atx le am mc aa pl ato g x hmc hno hM_0 hM_1) ⟨rfl, rfl⟩ ⟨(Nat.le_of_ble_eq_true rfl), (Nat.le_of_ble_eq_true rfl)⟩ rfl (Nat.le_of_ble_eq_true rfl) dX8_addMessage_48 rfl ⟨(Nat.le_of_ble_eq_true rfl), (Nat.le_of_ble_eq_true rfl)⟩) 51 rfl 0 (Nat.le_of_ble_eq_true rfl) ?_
          refine g_istore hC dX8_addMessage_51 (Nat.le_of_ble_eq_true rfl) [(5, .int (-1)), (0, .ref o), (1, .int x), (2, .int ln), (3, .int pe), (4, .int ji)] rfl 53 rfl ?_
          refine g_iload hC dX8_addMessage_53 0 rfl 55 rfl ?_
          refine g_if_ge hC dX8_addMessage_55 86 rfl 58 rfl (fun c_5 => ?_) (fun c_5 => ?_)
          · exact absurd c_5 (by decide)
          · refine g_aload_n hC dX8_addMessage_58 1 rfl gRef_r 59 rfl ?_
            refine g_get (v := .int (nI mc)) hC cI7 hM_0 7 (Nat.le_of_ble_eq_true rfl) q2949 rfl dX8_addMessage_59 62 rfl ?_
            refine g_bipush hC dX8_addMessage_62 kb_8 64 rfl ?_
            refine g_icmp_ne hC dX8_addMessage_64 70 rfl 67 rfl (fun c_6 => ?_) (fun c_6 => ?_)
            · replace c_6 : ¬ mc = 8 := nn_neq (by omega) (by omega) c_6
              exact absurd h8 c_6
            · replace c_6 : mc = 8 := nn_eq (by omega) (by omega) c_6
              refine g_bipush hC dX8_addMessage_67 kb_m3 69 rfl ?_
              exact g_iret (v := -3) hC (fun k9 hk9 => ⟨rfl, rfl, Nat.le_zero.mp hk9⟩) dX8_addMessage_69 (Nat.le_of_ble_eq_true rfl) (Nat.le_of_ble_eq_true rfl)
        · replace c_4 := bId_0 c_4
          exact absurd hP.2.2 c_4
set_option maxHeartbeats 4000000 in
theorem met_T_addMessage_a (l : Launch) (G : gG) (M : gM) (o : Nat) (av : Nat) (asp : Nat) (ak : Nat) (aik : Nat) (atx : Nat) (le : Int32) (am : Nat) (mc : Nat) (aa : Nat) (pl : Int32) (ato : Nat) (g : Nat → Int32) (x : Int32) (ln : Int32) (pe : Int32) (ji : Int32) (hmc : mc ≤ 8) (hP : okP x ln pe ji) (hno : ∀ i, i < mc → ¬ g (4 * i) = x) (h8 : mc < 8) (hM_0 : M o = some ((1, 0), .inr (7, [.ref av, .ref asp, .ref ak, .ref aik, .ref atx, .int le, .ref am, .int (nI mc), .ref aa, .int pl, .ref ato]))) (hM_1 : M am = some ((1, 6), .inl (gcs G 0, 32, .inl g))) : Met l yX8_addMessage (ws_ yX8_addMessage cX8_addMessage 6 (some .int)) ({ frames := 1, cells := 0, slots := 0, locals := 22 }) (gPc G [.ref o, .int x, .int ln, .int pe, .int ji] M) (gQi G (fun r9 M9 k9 => r9 = (nI (mc + 1)) ∧ M9 o = some ((1, 0), .inr (7, [.ref av, .ref asp, .ref ak, .ref aik, .ref atx, .int le, .ref am, .int (nI (mc + 1)), .ref aa, .int pl, .ref ato])) ∧ M9 am = some ((1, 6), .inl (gcs G 0, 32, .inl (msW g mc x ln pe ji))) ∧ gFr (gL [o, am]) M M9 ∧ k9 = 0)) 0 0 (gA G) := by
  refine gMet [(0, .ref o), (1, .int x), (2, .int ln), (3, .int pe), (4, .int ji)] (by decide) (Nat.le_of_ble_eq_true rfl) rfl ?_
  intro p e s m below meth c hC
  refine g_iload_n hC dX8_addMessage_0 1 rfl 1 rfl ?_
  refine g_iconst hC dX8_addMessage_1 ki_0 2 rfl ?_
  refine g_sipush hC dX8_addMessage_2 ks_2047 5 rfl ?_
  refine g_calliP (g_S (As := [.int x, .int 0, .int 2047]) (rest := []) hC msX8_in q2984 (met_T_in l G M x 0 2047) ⟨rfl, rfl⟩ ⟨(Nat.le_of_ble_eq_true rfl), (Nat.le_of_ble_eq_true rfl)⟩ rfl (Nat.le_of_ble_eq_true rfl) dX8_addMessage_5 rfl ⟨(Nat.le_of_ble_eq_true rfl), (Nat.le_of_ble_eq_true rfl)⟩) 8 rfl 0 (Nat.le_of_ble_eq_true rfl) ?_
  refine g_if_eq hC dX8_addMessage_8 43 rfl 11 rfl (fun c_1 => ?_) (fun c_1 => ?_)
  · replace c_1 := bId_0 c_1
    exact absurd hP.1.1 c_1
  · replace c_1 := bId_1 c_1
    refine g_iload_n hC dX8_addMessage_11 2 rfl 12 rfl ?_
    refine g_iconst hC dX8_addMessage_12 ki_0 13 rfl ?_
    refine g_iconst hC dX8_addMessage_13 ki_4 14 rfl ?_
    refine g_calliP (g_S (As := [.int ln, .int 0, .int 4]) (rest := []) hC msX8_in q2984 (met_T_in l G M ln 0 4) ⟨rfl, rfl⟩ ⟨(Nat.le_of_ble_eq_true rfl), (Nat.le_of_ble_eq_true rfl)⟩ rfl (Nat.le_of_ble_eq_true rfl) dX8_addMessage_14 rfl ⟨(Nat.le_of_ble_eq_true rfl), (Nat.le_of_ble_eq_true rfl)⟩) 17 rfl 0 (Nat.le_of_ble_eq_true rfl) ?_
    refine g_if_eq hC dX8_addMessage_17 43 rfl 20 rfl (fun c_2 => ?_) (fun c_2 => ?_)
    · replace c_2 := bId_0 c_2
      exact absurd hP.1.2 c_2
    · replace c_2 := bId_1 c_2
      refine g_iload_n hC dX8_addMessage_20 3 rfl 21 rfl ?_
      refine g_iconst hC dX8_addMessage_21 ki_1 22 rfl ?_
      refine g_sipush hC dX8_addMessage_22 ks_5000 25 rfl ?_
      refine g_calliP (g_S (As := [.int pe, .int 1, .int 5000]) (rest := []) hC msX8_in q2984 (met_T_in l G M pe 1 5000) ⟨rfl, rfl⟩ ⟨(Nat.le_of_ble_eq_true rfl), (Nat.le_of_ble_eq_true rfl)⟩ rfl (Nat.le_of_ble_eq_true rfl) dX8_addMessage_25 rfl ⟨(Nat.le_of_ble_eq_true rfl), (Nat.le_of_ble_eq_true rfl)⟩) 28 rfl 0 (Nat.le_of_ble_eq_true rfl) ?_
      refine g_if_eq hC dX8_addMessage_28 43 rfl 31 rfl (fun c_3 => ?_) (fun c_3 => ?_)
      · replace c_3 := bId_0 c_3
        exact absurd hP.2.1 c_3
      · replace c_3 := bId_1 c_3
        refine g_iload hC dX8_addMessage_31 4 rfl 33 rfl ?_
        refine g_iconst hC dX8_addMessage_33 ki_0 34 rfl ?_
        refine g_sipush hC dX8_addMessage_34 ks_500 37 rfl ?_
        refine g_calliP (g_S (As := [.int ji, .int 0, .int 500]) (rest := []) hC msX8_in q2984 (met_T_in l G M ji 0 500) ⟨rfl, rfl⟩ ⟨(Nat.le_of_ble_eq_true rfl), (Nat.le_of_ble_eq_true rfl)⟩ rfl (Nat.le_of_ble_eq_true rfl) dX8_addMessage_37 rfl ⟨(Nat.le_of_ble_eq_true rfl), (Nat.le_of_ble_eq_true rfl)⟩) 40 rfl 0 (Nat.le_of_ble_eq_true rfl) ?_
        refine g_if_ne hC dX8_addMessage_40 46 rfl 43 rfl (fun c_4 => ?_) (fun c_4 => ?_)
        · replace c_4 := bId_1 c_4
          refine g_aload_n hC dX8_addMessage_46 0 rfl gRef_r 47 rfl ?_
          refine g_iload_n hC dX8_addMessage_47 1 rfl 48 rfl ?_
          refine g_calliP (g_V (As := [.int x]) (rest := []) hC mvX8_messageOf q3315 (gOf.of hC.K cI7 hM_0) (met_T_messageOf_n l G M o av asp ak aik atx le am mc aa pl ato g x hmc hno hM_0 hM_1) ⟨rfl, rfl⟩ ⟨(Nat.le_of_ble_eq_true rfl), (Nat.le_of_ble_eq_true rfl)⟩ rfl (Nat.le_of_ble_eq_true rfl) dX8_addMessage_48 rfl ⟨(Nat.le_of_ble_eq_true rfl), (Nat.le_of_ble_eq_true rfl)⟩) 51 rfl 0 (Nat.le_of_ble_eq_true rfl) ?_
          refine g_istore hC dX8_addMessage_51 (Nat.le_of_ble_eq_true rfl) [(5, .int (-1)), (0, .ref o), (1, .int x), (2, .int ln), (3, .int pe), (4, .int ji)] rfl 53 rfl ?_
          refine g_iload hC dX8_addMessage_53 0 rfl 55 rfl ?_
          refine g_if_ge hC dX8_addMessage_55 86 rfl 58 rfl (fun c_5 => ?_) (fun c_5 => ?_)
          · exact absurd c_5 (by decide)
          · refine g_aload_n hC dX8_addMessage_58 1 rfl gRef_r 59 rfl ?_
            refine g_get (v := .int (nI mc)) hC cI7 hM_0 7 (Nat.le_of_ble_eq_true rfl) q2949 rfl dX8_addMessage_59 62 rfl ?_
            refine g_bipush hC dX8_addMessage_62 kb_8 64 rfl ?_
            refine g_icmp_ne hC dX8_addMessage_64 70 rfl 67 rfl (fun c_6 => ?_) (fun c_6 => ?_)
            · replace c_6 : ¬ mc = 8 := nn_neq (by omega) (by omega) c_6
              refine g_aload_n hC dX8_addMessage_70 1 rfl gRef_r 71 rfl ?_
              refine g_get (v := .int (nI mc)) hC cI7 hM_0 7 (Nat.le_of_ble_eq_true rfl) q2949 rfl dX8_addMessage_71 74 rfl ?_
              refine g_istore hC dX8_addMessage_74 (Nat.le_of_ble_eq_true rfl) [(5, .int (nI mc)), (0, .ref o), (1, .int x), (2, .int ln), (3, .int pe), (4, .int ji)] rfl 76 rfl ?_
              refine g_aload_n hC dX8_addMessage_76 1 rfl gRef_r 77 rfl ?_
              refine g_dup hC dX8_addMessage_77 rfl 78 rfl ?_
              refine g_get (v := .int (nI mc)) hC cI7 hM_0 7 (Nat.le_of_ble_eq_true rfl) q2949 rfl dX8_addMessage_78 81 rfl ?_
              refine g_iconst hC dX8_addMessage_81 ki_1 82 rfl ?_
              refine g_iadd hC dX8_addMessage_82 83 rfl ?_
              refine g_topi (y := nI (mc + 1)) (nI_a (a := mc) (b := 1) (c := (mc + 1)) (by omega)) ?_
              refine g_put hC cI7 hM_0 7 (Nat.le_of_ble_eq_true rfl) q2949 rfl rfl rfl (Nat.le_of_ble_eq_true rfl) dX8_addMessage_83 (fs' := [.ref av, .ref asp, .ref ak, .ref aik, .ref atx, .int le, .ref am, .int (nI (mc + 1)), .ref aa, .int pl, .ref ato]) rfl 86 rfl (fun M7 hU8 => ?_)
              refine g_aload_n hC dX8_addMessage_86 1 rfl gRef_r 87 rfl ?_
              refine g_get (v := .ref am) hC cI7 hU8.1 6 (Nat.le_of_ble_eq_true rfl) q2948 rfl dX8_addMessage_87 90 rfl ?_
              refine g_iconst hC dX8_addMessage_90 ki_4 91 rfl ?_
              refine g_iload hC dX8_addMessage_91 0 rfl 93 rfl ?_
              refine g_imul hC dX8_addMessage_93 94 rfl ?_
              refine g_topi (y := nI (4 * mc)) (nI_m (a := 4) (b := mc) (c := (4 * mc)) (by omega)) ?_
              refine g_iload_n hC dX8_addMessage_94 2 rfl 95 rfl ?_
              refine g_iast hC (hU8.n (gne_ao hM_1 hM_0) hM_1) 0 rfl (vp_in_nI (by omega) (by omega)) (4 * mc) (nI_clamp (by omega)) dX8_addMessage_95 96 rfl (fun M9 hU10 => ?_)
              obtain ⟨F11, eF12⟩ : ∃ z9, z9 = upd g (4 * mc) x := ⟨_, rfl⟩
              rw [← eF12] at hU10
              refine g_aload_n hC dX8_addMessage_96 1 rfl gRef_r 97 rfl ?_
              refine g_get (v := .ref am) hC cI7 (hU10.n (gne_oa hU8.1 (hU8.n (gne_ao hM_1 hM_0) hM_1)) hU8.1) 6 (Nat.le_of_ble_eq_true rfl) q2948 rfl dX8_addMessage_97 100 rfl ?_
              refine g_iconst hC dX8_addMessage_100 ki_4 101 rfl ?_
              refine g_iload hC dX8_addMessage_101 0 rfl 103 rfl ?_
              refine g_imul hC dX8_addMessage_103 104 rfl ?_
              refine g_topi (y := nI (4 * mc)) (nI_m (a := 4) (b := mc) (c := (4 * mc)) (by omega)) ?_
              refine g_iconst hC dX8_addMessage_104 ki_1 105 rfl ?_
              refine g_iadd hC dX8_addMessage_105 106 rfl ?_
              refine g_topi (y := nI (4 * mc + 1)) (nI_a (a := (4 * mc)) (b := 1) (c := (4 * mc + 1)) (by omega)) ?_
              refine g_iload_n hC dX8_addMessage_106 3 rfl 107 rfl ?_
              refine g_iast hC hU10.1 0 rfl (vp_in_nI (by omega) (by omega)) (4 * mc + 1) (nI_clamp (by omega)) dX8_addMessage_107 108 rfl (fun M13 hU14 => ?_)
              obtain ⟨F15, eF16⟩ : ∃ z9, z9 = upd F11 (4 * mc + 1) ln := ⟨_, rfl⟩
              rw [← eF16] at hU14
              refine g_aload_n hC dX8_addMessage_108 1 rfl gRef_r 109 rfl ?_
              refine g_get (v := .ref am) hC cI7 (hU14.n (gne_oa (hU10.n (gne_oa hU8.1 (hU8.n (gne_ao hM_1 hM_0) hM_1)) hU8.1) hU10.1) (hU10.n (gne_oa hU8.1 (hU8.n (gne_ao hM_1 hM_0) hM_1)) hU8.1)) 6 (Nat.le_of_ble_eq_true rfl) q2948 rfl dX8_addMessage_109 112 rfl ?_
              refine g_iconst hC dX8_addMessage_112 ki_4 113 rfl ?_
              refine g_iload hC dX8_addMessage_113 0 rfl 115 rfl ?_
              refine g_imul hC dX8_addMessage_115 116 rfl ?_
              refine g_topi (y := nI (4 * mc)) (nI_m (a := 4) (b := mc) (c := (4 * mc)) (by omega)) ?_
              refine g_iconst hC dX8_addMessage_116 ki_2 117 rfl ?_
              refine g_iadd hC dX8_addMessage_117 118 rfl ?_
              refine g_topi (y := nI (4 * mc + 2)) (nI_a (a := (4 * mc)) (b := 2) (c := (4 * mc + 2)) (by omega)) ?_
              refine g_iload_n hC dX8_addMessage_118 4 rfl 119 rfl ?_
              refine g_iast hC hU14.1 0 rfl (vp_in_nI (by omega) (by omega)) (4 * mc + 2) (nI_clamp (by omega)) dX8_addMessage_119 120 rfl (fun M17 hU18 => ?_)
              obtain ⟨F19, eF20⟩ : ∃ z9, z9 = upd F15 (4 * mc + 2) pe := ⟨_, rfl⟩
              rw [← eF20] at hU18
              refine g_aload_n hC dX8_addMessage_120 1 rfl gRef_r 121 rfl ?_
              refine g_get (v := .ref am) hC cI7 (hU18.n (gne_oa (hU14.n (gne_oa (hU10.n (gne_oa hU8.1 (hU8.n (gne_ao hM_1 hM_0) hM_1)) hU8.1) hU10.1) (hU10.n (gne_oa hU8.1 (hU8.n (gne_ao hM_1 hM_0) hM_1)) hU8.1)) hU14.1) (hU14.n (gne_oa (hU10.n (gne_oa hU8.1 (hU8.n (gne_ao hM_1 hM_0) hM_1)) hU8.1) hU10.1) (hU10.n (gne_oa hU8.1 (hU8.n (gne_ao hM_1 hM_0) hM_1)) hU8.1))) 6 (Nat.le_of_ble_eq_true rfl) q2948 rfl dX8_addMessage_121 124 rfl ?_
              refine g_iconst hC dX8_addMessage_124 ki_4 125 rfl ?_
              refine g_iload hC dX8_addMessage_125 0 rfl 127 rfl ?_
              refine g_imul hC dX8_addMessage_127 128 rfl ?_
              refine g_topi (y := nI (4 * mc)) (nI_m (a := 4) (b := mc) (c := (4 * mc)) (by omega)) ?_
              refine g_iconst hC dX8_addMessage_128 ki_3 129 rfl ?_
              refine g_iadd hC dX8_addMessage_129 130 rfl ?_
              refine g_topi (y := nI (4 * mc + 3)) (nI_a (a := (4 * mc)) (b := 3) (c := (4 * mc + 3)) (by omega)) ?_
              refine g_iload hC dX8_addMessage_130 5 rfl 132 rfl ?_
              refine g_iast hC hU18.1 0 rfl (vp_in_nI (by omega) (by omega)) (4 * mc + 3) (nI_clamp (by omega)) dX8_addMessage_132 133 rfl (fun M21 hU22 => ?_)
              obtain ⟨F23, eF24⟩ : ∃ z9, z9 = upd F19 (4 * mc + 3) ji := ⟨_, rfl⟩
              rw [← eF24] at hU22
              refine g_aload_n hC dX8_addMessage_133 1 rfl gRef_r 134 rfl ?_
              refine g_get (v := .int (nI (mc + 1))) hC cI7 (hU22.n (gne_oa (hU18.n (gne_oa (hU14.n (gne_oa (hU10.n (gne_oa hU8.1 (hU8.n (gne_ao hM_1 hM_0) hM_1)) hU8.1) hU10.1) (hU10.n (gne_oa hU8.1 (hU8.n (gne_ao hM_1 hM_0) hM_1)) hU8.1)) hU14.1) (hU14.n (gne_oa (hU10.n (gne_oa hU8.1 (hU8.n (gne_ao hM_1 hM_0) hM_1)) hU8.1) hU10.1) (hU10.n (gne_oa hU8.1 (hU8.n (gne_ao hM_1 hM_0) hM_1)) hU8.1))) hU18.1) (hU18.n (gne_oa (hU14.n (gne_oa (hU10.n (gne_oa hU8.1 (hU8.n (gne_ao hM_1 hM_0) hM_1)) hU8.1) hU10.1) (hU10.n (gne_oa hU8.1 (hU8.n (gne_ao hM_1 hM_0) hM_1)) hU8.1)) hU14.1) (hU14.n (gne_oa (hU10.n (gne_oa hU8.1 (hU8.n (gne_ao hM_1 hM_0) hM_1)) hU8.1) hU10.1) (hU10.n (gne_oa hU8.1 (hU8.n (gne_ao hM_1 hM_0) hM_1)) hU8.1)))) 7 (Nat.le_of_ble_eq_true rfl) q2949 rfl dX8_addMessage_134 137 rfl ?_
              exact g_iret (v := nI (mc + 1)) hC (fun k9 hk9 => ⟨rfl, (hU22.n (gne_oa (hU18.n (gne_oa (hU14.n (gne_oa (hU10.n (gne_oa hU8.1 (hU8.n (gne_ao hM_1 hM_0) hM_1)) hU8.1) hU10.1) (hU10.n (gne_oa hU8.1 (hU8.n (gne_ao hM_1 hM_0) hM_1)) hU8.1)) hU14.1) (hU14.n (gne_oa (hU10.n (gne_oa hU8.1 (hU8.n (gne_ao hM_1 hM_0) hM_1)) hU8.1) hU10.1) (hU10.n (gne_oa hU8.1 (hU8.n (gne_ao hM_1 hM_0) hM_1)) hU8.1))) hU18.1) (hU18.n (gne_oa (hU14.n (gne_oa (hU10.n (gne_oa hU8.1 (hU8.n (gne_ao hM_1 hM_0) hM_1)) hU8.1) hU10.1) (hU10.n (gne_oa hU8.1 (hU8.n (gne_ao hM_1 hM_0) hM_1)) hU8.1)) hU14.1) (hU14.n (gne_oa (hU10.n (gne_oa hU8.1 (hU8.n (gne_ao hM_1 hM_0) hM_1)) hU8.1) hU10.1) (hU10.n (gne_oa hU8.1 (hU8.n (gne_ao hM_1 hM_0) hM_1)) hU8.1)))), (by rw [hU22.1, eF24, eF20, eF16, eF12]; rfl), (((((gFr.refl.up hU8 hM_0 (by simp)).up hU10 (hU8.n (gne_ao hM_1 hM_0) hM_1) (by simp)).up hU14 hU10.1 (by simp)).up hU18 hU14.1 (by simp)).up hU22 hU18.1 (by simp)), (by first | exact Nat.le_zero.mp hk9 | omega)⟩) dX8_addMessage_137 (Nat.le_of_ble_eq_true rfl) (Nat.le_of_ble_eq_true rfl)
            · replace c_6 : mc = 8 := nn_eq (by omega) (by omega) c_6
              exact absurd c_6 (by omega)
        · replace c_4 := bId_0 c_4
          exact absurd hP.2.2 c_4
set_option maxHeartbeats 4000000 in
theorem met_T_addMessage_r (l : Launch) (G : gG) (M : gM) (o : Nat) (av : Nat) (asp : Nat) (ak : Nat) (aik : Nat) (atx : Nat) (le : Int32) (am : Nat) (mc : Nat) (aa : Nat) (pl : Int32) (ato : Nat) (g : Nat → Int32) (x : Int32) (ln : Int32) (pe : Int32) (ji : Int32) (ai : Nat) (hmc : mc ≤ 8) (hP : okP x ln pe ji) (hai : ai < mc) (hax : g (4 * ai) = x) (hbf : ∀ i, i < ai → ¬ g (4 * i) = x) (hM_0 : M o = some ((1, 0), .inr (7, [.ref av, .ref asp, .ref ak, .ref aik, .ref atx, .int le, .ref am, .int (nI mc), .ref aa, .int pl, .ref ato]))) (hM_1 : M am = some ((1, 6), .inl (gcs G 0, 32, .inl g))) : Met l yX8_addMessage (ws_ yX8_addMessage cX8_addMessage 6 (some .int)) ({ frames := 1, cells := 0, slots := 0, locals := 22 }) (gPc G [.ref o, .int x, .int ln, .int pe, .int ji] M) (gQi G (fun r9 M9 k9 => r9 = (nI mc) ∧ M9 o = some ((1, 0), .inr (7, [.ref av, .ref asp, .ref ak, .ref aik, .ref atx, .int le, .ref am, .int (nI mc), .ref aa, .int pl, .ref ato])) ∧ M9 am = some ((1, 6), .inl (gcs G 0, 32, .inl (msW g ai x ln pe ji))) ∧ gFr (gL [o, am]) M M9 ∧ k9 = 0)) 0 0 (gA G) := by
  refine gMet [(0, .ref o), (1, .int x), (2, .int ln), (3, .int pe), (4, .int ji)] (by decide) (Nat.le_of_ble_eq_true rfl) rfl ?_
  intro p e s m below meth c hC
  refine g_iload_n hC dX8_addMessage_0 1 rfl 1 rfl ?_
  refine g_iconst hC dX8_addMessage_1 ki_0 2 rfl ?_
  refine g_sipush hC dX8_addMessage_2 ks_2047 5 rfl ?_
  refine g_calliP (g_S (As := [.int x, .int 0, .int 2047]) (rest := []) hC msX8_in q2984 (met_T_in l G M x 0 2047) ⟨rfl, rfl⟩ ⟨(Nat.le_of_ble_eq_true rfl), (Nat.le_of_ble_eq_true rfl)⟩ rfl (Nat.le_of_ble_eq_true rfl) dX8_addMessage_5 rfl ⟨(Nat.le_of_ble_eq_true rfl), (Nat.le_of_ble_eq_true rfl)⟩) 8 rfl 0 (Nat.le_of_ble_eq_true rfl) ?_
  refine g_if_eq hC dX8_addMessage_8 43 rfl 11 rfl (fun c_1 => ?_) (fun c_1 => ?_)
  · replace c_1 := bId_0 c_1
    exact absurd hP.1.1 c_1
  · replace c_1 := bId_1 c_1
    refine g_iload_n hC dX8_addMessage_11 2 rfl 12 rfl ?_
    refine g_iconst hC dX8_addMessage_12 ki_0 13 rfl ?_
    refine g_iconst hC dX8_addMessage_13 ki_4 14 rfl ?_
    refine g_calliP (g_S (As := [.int ln, .int 0, .int 4]) (rest := []) hC msX8_in q2984 (met_T_in l G M ln 0 4) ⟨rfl, rfl⟩ ⟨(Nat.le_of_ble_eq_true rfl), (Nat.le_of_ble_eq_true rfl)⟩ rfl (Nat.le_of_ble_eq_true rfl) dX8_addMessage_14 rfl ⟨(Nat.le_of_ble_eq_true rfl), (Nat.le_of_ble_eq_true rfl)⟩) 17 rfl 0 (Nat.le_of_ble_eq_true rfl) ?_
    refine g_if_eq hC dX8_addMessage_17 43 rfl 20 rfl (fun c_2 => ?_) (fun c_2 => ?_)
    · replace c_2 := bId_0 c_2
      exact absurd hP.1.2 c_2
    · replace c_2 := bId_1 c_2
      refine g_iload_n hC dX8_addMessage_20 3 rfl 21 rfl ?_
      refine g_iconst hC dX8_addMessage_21 ki_1 22 rfl ?_
      refine g_sipush hC dX8_addMessage_22 ks_5000 25 rfl ?_
      refine g_calliP (g_S (As := [.int pe, .int 1, .int 5000]) (rest := []) hC msX8_in q2984 (met_T_in l G M pe 1 5000) ⟨rfl, rfl⟩ ⟨(Nat.le_of_ble_eq_true rfl), (Nat.le_of_ble_eq_true rfl)⟩ rfl (Nat.le_of_ble_eq_true rfl) dX8_addMessage_25 rfl ⟨(Nat.le_of_ble_eq_true rfl), (Nat.le_of_ble_eq_true rfl)⟩) 28 rfl 0 (Nat.le_of_ble_eq_true rfl) ?_
      refine g_if_eq hC dX8_addMessage_28 43 rfl 31 rfl (fun c_3 => ?_) (fun c_3 => ?_)
      · replace c_3 := bId_0 c_3
        exact absurd hP.2.1 c_3
      · replace c_3 := bId_1 c_3
        refine g_iload hC dX8_addMessage_31 4 rfl 33 rfl ?_
        refine g_iconst hC dX8_addMessage_33 ki_0 34 rfl ?_
        refine g_sipush hC dX8_addMessage_34 ks_500 37 rfl ?_
        refine g_calliP (g_S (As := [.int ji, .int 0, .int 500]) (rest := []) hC msX8_in q2984 (met_T_in l G M ji 0 500) ⟨rfl, rfl⟩ ⟨(Nat.le_of_ble_eq_true rfl), (Nat.le_of_ble_eq_true rfl)⟩ rfl (Nat.le_of_ble_eq_true rfl) dX8_addMessage_37 rfl ⟨(Nat.le_of_ble_eq_true rfl), (Nat.le_of_ble_eq_true rfl)⟩) 40 rfl 0 (Nat.le_of_ble_eq_true rfl) ?_
        refine g_if_ne hC dX8_addMessage_40 46 rfl 43 rfl (fun c_4 => ?_) (fun c_4 => ?_)
        · replace c_4 := bId_1 c_4
          refine g_aload_n hC dX8_addMessage_46 0 rfl gRef_r 47 rfl ?_
          refine g_iload_n hC dX8_addMessage_47 1 rfl 48 rfl ?_
          refine g_calliP (g_V (As := [.int x]) (rest := []) hC mvX8_messageOf q3315 (gOf.of hC.K cI7 hM_0) (met_T_messageOf l G M o av asp ak aik atx le am mc aa pl ato g x ai hmc hai hax hbf hM_0 hM_1) ⟨rfl, rfl⟩ ⟨(Nat.le_of_ble_eq_true rfl), (Nat.le_of_ble_eq_true rfl)⟩ rfl (Nat.le_of_ble_eq_true rfl) dX8_addMessage_48 rfl ⟨(Nat.le_of_ble_eq_true rfl), (Nat.le_of_ble_eq_true rfl)⟩) 51 rfl 0 (Nat.le_of_ble_eq_true rfl) ?_
          refine g_istore hC dX8_addMessage_51 (Nat.le_of_ble_eq_true rfl) [(5, .int (nI ai)), (0, .ref o), (1, .int x), (2, .int ln), (3, .int pe), (4, .int ji)] rfl 53 rfl ?_
          refine g_iload hC dX8_addMessage_53 0 rfl 55 rfl ?_
          refine g_if_ge hC dX8_addMessage_55 86 rfl 58 rfl (fun c_5 => ?_) (fun c_5 => ?_)
          · replace c_5 : 0 ≤ ai := nn_le (by omega) (by omega) c_5
            refine g_aload_n hC dX8_addMessage_86 1 rfl gRef_r 87 rfl ?_
            refine g_get (v := .ref am) hC cI7 hM_0 6 (Nat.le_of_ble_eq_true rfl) q2948 rfl dX8_addMessage_87 90 rfl ?_
            refine g_iconst hC dX8_addMessage_90 ki_4 91 rfl ?_
            refine g_iload hC dX8_addMessage_91 0 rfl 93 rfl ?_
            refine g_imul hC dX8_addMessage_93 94 rfl ?_
            refine g_topi (y := nI (4 * ai)) (nI_m (a := 4) (b := ai) (c := (4 * ai)) (by omega)) ?_
            refine g_iload_n hC dX8_addMessage_94 2 rfl 95 rfl ?_
            refine g_iast hC hM_1 0 rfl (vp_in_nI (by omega) (by omega)) (4 * ai) (nI_clamp (by omega)) dX8_addMessage_95 96 rfl (fun M6 hU7 => ?_)
            obtain ⟨F8, eF9⟩ : ∃ z9, z9 = upd g (4 * ai) x := ⟨_, rfl⟩
            rw [← eF9] at hU7
            refine g_aload_n hC dX8_addMessage_96 1 rfl gRef_r 97 rfl ?_
            refine g_get (v := .ref am) hC cI7 (hU7.n (gne_oa hM_0 hM_1) hM_0) 6 (Nat.le_of_ble_eq_true rfl) q2948 rfl dX8_addMessage_97 100 rfl ?_
            refine g_iconst hC dX8_addMessage_100 ki_4 101 rfl ?_
            refine g_iload hC dX8_addMessage_101 0 rfl 103 rfl ?_
            refine g_imul hC dX8_addMessage_103 104 rfl ?_
            refine g_topi (y := nI (4 * ai)) (nI_m (a := 4) (b := ai) (c := (4 * ai)) (by omega)) ?_
            refine g_iconst hC dX8_addMessage_104 ki_1 105 rfl ?_
            refine g_iadd hC dX8_addMessage_105 106 rfl ?_
            refine g_topi (y := nI (4 * ai + 1)) (nI_a (a := (4 * ai)) (b := 1) (c := (4 * ai + 1)) (by omega)) ?_
            refine g_iload_n hC dX8_addMessage_106 3 rfl 107 rfl ?_
            refine g_iast hC hU7.1 0 rfl (vp_in_nI (by omega) (by omega)) (4 * ai + 1) (nI_clamp (by omega)) dX8_addMessage_107 108 rfl (fun M10 hU11 => ?_)
            obtain ⟨F12, eF13⟩ : ∃ z9, z9 = upd F8 (4 * ai + 1) ln := ⟨_, rfl⟩
            rw [← eF13] at hU11
            refine g_aload_n hC dX8_addMessage_108 1 rfl gRef_r 109 rfl ?_
            refine g_get (v := .ref am) hC cI7 (hU11.n (gne_oa (hU7.n (gne_oa hM_0 hM_1) hM_0) hU7.1) (hU7.n (gne_oa hM_0 hM_1) hM_0)) 6 (Nat.le_of_ble_eq_true rfl) q2948 rfl dX8_addMessage_109 112 rfl ?_
            refine g_iconst hC dX8_addMessage_112 ki_4 113 rfl ?_
            refine g_iload hC dX8_addMessage_113 0 rfl 115 rfl ?_
            refine g_imul hC dX8_addMessage_115 116 rfl ?_
            refine g_topi (y := nI (4 * ai)) (nI_m (a := 4) (b := ai) (c := (4 * ai)) (by omega)) ?_
            refine g_iconst hC dX8_addMessage_116 ki_2 117 rfl ?_
            refine g_iadd hC dX8_addMessage_117 118 rfl ?_
            refine g_topi (y := nI (4 * ai + 2)) (nI_a (a := (4 * ai)) (b := 2) (c := (4 * ai + 2)) (by omega)) ?_
            refine g_iload_n hC dX8_addMessage_118 4 rfl 119 rfl ?_
            refine g_iast hC hU11.1 0 rfl (vp_in_nI (by omega) (by omega)) (4 * ai + 2) (nI_clamp (by omega)) dX8_addMessage_119 120 rfl (fun M14 hU15 => ?_)
            obtain ⟨F16, eF17⟩ : ∃ z9, z9 = upd F12 (4 * ai + 2) pe := ⟨_, rfl⟩
            rw [← eF17] at hU15
            refine g_aload_n hC dX8_addMessage_120 1 rfl gRef_r 121 rfl ?_
            refine g_get (v := .ref am) hC cI7 (hU15.n (gne_oa (hU11.n (gne_oa (hU7.n (gne_oa hM_0 hM_1) hM_0) hU7.1) (hU7.n (gne_oa hM_0 hM_1) hM_0)) hU11.1) (hU11.n (gne_oa (hU7.n (gne_oa hM_0 hM_1) hM_0) hU7.1) (hU7.n (gne_oa hM_0 hM_1) hM_0))) 6 (Nat.le_of_ble_eq_true rfl) q2948 rfl dX8_addMessage_121 124 rfl ?_
            refine g_iconst hC dX8_addMessage_124 ki_4 125 rfl ?_
            refine g_iload hC dX8_addMessage_125 0 rfl 127 rfl ?_
            refine g_imul hC dX8_addMessage_127 128 rfl ?_
            refine g_topi (y := nI (4 * ai)) (nI_m (a := 4) (b := ai) (c := (4 * ai)) (by omega)) ?_
            refine g_iconst hC dX8_addMessage_128 ki_3 129 rfl ?_
            refine g_iadd hC dX8_addMessage_129 130 rfl ?_
            refine g_topi (y := nI (4 * ai + 3)) (nI_a (a := (4 * ai)) (b := 3) (c := (4 * ai + 3)) (by omega)) ?_
            refine g_iload hC dX8_addMessage_130 5 rfl 132 rfl ?_
            refine g_iast hC hU15.1 0 rfl (vp_in_nI (by omega) (by omega)) (4 * ai + 3) (nI_clamp (by omega)) dX8_addMessage_132 133 rfl (fun M18 hU19 => ?_)
            obtain ⟨F20, eF21⟩ : ∃ z9, z9 = upd F16 (4 * ai + 3) ji := ⟨_, rfl⟩
            rw [← eF21] at hU19
            refine g_aload_n hC dX8_addMessage_133 1 rfl gRef_r 134 rfl ?_
            refine g_get (v := .int (nI mc)) hC cI7 (hU19.n (gne_oa (hU15.n (gne_oa (hU11.n (gne_oa (hU7.n (gne_oa hM_0 hM_1) hM_0) hU7.1) (hU7.n (gne_oa hM_0 hM_1) hM_0)) hU11.1) (hU11.n (gne_oa (hU7.n (gne_oa hM_0 hM_1) hM_0) hU7.1) (hU7.n (gne_oa hM_0 hM_1) hM_0))) hU15.1) (hU15.n (gne_oa (hU11.n (gne_oa (hU7.n (gne_oa hM_0 hM_1) hM_0) hU7.1) (hU7.n (gne_oa hM_0 hM_1) hM_0)) hU11.1) (hU11.n (gne_oa (hU7.n (gne_oa hM_0 hM_1) hM_0) hU7.1) (hU7.n (gne_oa hM_0 hM_1) hM_0)))) 7 (Nat.le_of_ble_eq_true rfl) q2949 rfl dX8_addMessage_134 137 rfl ?_
            exact g_iret (v := nI mc) hC (fun k9 hk9 => ⟨rfl, (hU19.n (gne_oa (hU15.n (gne_oa (hU11.n (gne_oa (hU7.n (gne_oa hM_0 hM_1) hM_0) hU7.1) (hU7.n (gne_oa hM_0 hM_1) hM_0)) hU11.1) (hU11.n (gne_oa (hU7.n (gne_oa hM_0 hM_1) hM_0) hU7.1) (hU7.n (gne_oa hM_0 hM_1) hM_0))) hU15.1) (hU15.n (gne_oa (hU11.n (gne_oa (hU7.n (gne_oa hM_0 hM_1) hM_0) hU7.1) (hU7.n (gne_oa hM_0 hM_1) hM_0)) hU11.1) (hU11.n (gne_oa (hU7.n (gne_oa hM_0 hM_1) hM_0) hU7.1) (hU7.n (gne_oa hM_0 hM_1) hM_0)))), (by rw [hU19.1, eF21, eF17, eF13, eF9]; rfl), ((((gFr.refl.up hU7 hM_1 (by simp)).up hU11 hU7.1 (by simp)).up hU15 hU11.1 (by simp)).up hU19 hU15.1 (by simp)), (by first | exact Nat.le_zero.mp hk9 | omega)⟩) dX8_addMessage_137 (Nat.le_of_ble_eq_true rfl) (Nat.le_of_ble_eq_true rfl)
          · replace c_5 : ai < 0 := nn_nle (by omega) (by omega) c_5
            exact absurd c_5 (Nat.not_lt_zero _)
        · replace c_4 := bId_0 c_4
          exact absurd hP.2.2 c_4
set_option maxHeartbeats 4000000 in
theorem met_T_removeMessage_n (l : Launch) (G : gG) (M : gM) (o : Nat) (av : Nat) (asp : Nat) (ak : Nat) (aik : Nat) (atx : Nat) (le : Int32) (am : Nat) (mc : Nat) (aa : Nat) (pl : Int32) (ato : Nat) (g : Nat → Int32) (x : Int32) (hmc : mc ≤ 8) (hno : ∀ i, i < mc → ¬ g (4 * i) = x) (hM_0 : M o = some ((1, 0), .inr (7, [.ref av, .ref asp, .ref ak, .ref aik, .ref atx, .int le, .ref am, .int (nI mc), .ref aa, .int pl, .ref ato]))) (hM_1 : M am = some ((1, 6), .inl (gcs G 0, 32, .inl g))) : Met l yX8_removeMessage (ws_ yX8_removeMessage cX8_removeMessage 4 (some .int)) ({ frames := 1, cells := 0, slots := 0, locals := 22 }) (gPc G [.ref o, .int x] M) (gQi G (fun r9 M9 k9 => r9 = (-5) ∧ M9 = M ∧ k9 = 0)) 0 0 (gA G) := by
  refine gMet [(0, .ref o), (1, .int x)] (by decide) (Nat.le_of_ble_eq_true rfl) rfl ?_
  intro p e s m below meth c hC
  refine g_aload_n hC dX8_removeMessage_0 0 rfl gRef_r 1 rfl ?_
  refine g_iload_n hC dX8_removeMessage_1 1 rfl 2 rfl ?_
  refine g_calliP (g_V (As := [.int x]) (rest := []) hC mvX8_messageOf q3315 (gOf.of hC.K cI7 hM_0) (met_T_messageOf_n l G M o av asp ak aik atx le am mc aa pl ato g x hmc hno hM_0 hM_1) ⟨rfl, rfl⟩ ⟨(Nat.le_of_ble_eq_true rfl), (Nat.le_of_ble_eq_true rfl)⟩ rfl (Nat.le_of_ble_eq_true rfl) dX8_removeMessage_2 rfl ⟨(Nat.le_of_ble_eq_true rfl), (Nat.le_of_ble_eq_true rfl)⟩) 5 rfl 0 (Nat.le_of_ble_eq_true rfl) ?_
  refine g_istore_n hC dX8_removeMessage_5 rfl (Nat.le_of_ble_eq_true rfl) [(2, .int (-1)), (0, .ref o), (1, .int x)] rfl 6 rfl ?_
  refine g_iload_n hC dX8_removeMessage_6 0 rfl 7 rfl ?_
  refine g_if_ge hC dX8_removeMessage_7 13 rfl 10 rfl (fun c_1 => ?_) (fun c_1 => ?_)
  · exact absurd c_1 (by decide)
  · refine g_bipush hC dX8_removeMessage_10 kb_m5 12 rfl ?_
    exact g_iret (v := -5) hC (fun k9 hk9 => ⟨rfl, rfl, Nat.le_zero.mp hk9⟩) dX8_removeMessage_12 (Nat.le_of_ble_eq_true rfl) (Nat.le_of_ble_eq_true rfl)
set_option maxHeartbeats 4000000 in
theorem met_T_removeMessage (l : Launch) (G : gG) (M : gM) (o : Nat) (av : Nat) (asp : Nat) (ak : Nat) (aik : Nat) (atx : Nat) (le : Int32) (am : Nat) (mc : Nat) (aa : Nat) (pl : Int32) (ato : Nat) (g : Nat → Int32) (x : Int32) (ai : Nat) (hmc : mc ≤ 8) (hai : ai < mc) (hax : g (4 * ai) = x) (hbf : ∀ i, i < ai → ¬ g (4 * i) = x) (hM_0 : M o = some ((1, 0), .inr (7, [.ref av, .ref asp, .ref ak, .ref aik, .ref atx, .int le, .ref am, .int (nI mc), .ref aa, .int pl, .ref ato]))) (hM_1 : M am = some ((1, 6), .inl (gcs G 0, 32, .inl g))) : Met l yX8_removeMessage (ws_ yX8_removeMessage cX8_removeMessage 4 (some .int)) ({ frames := 1, cells := 0, slots := 0, locals := 22 }) (gPc G [.ref o, .int x] M) (gQi G (fun r9 M9 k9 => r9 = (nI (mc - 1)) ∧ M9 o = some ((1, 0), .inr (7, [.ref av, .ref asp, .ref ak, .ref aik, .ref atx, .int le, .ref am, .int (nI (mc - 1)), .ref aa, .int pl, .ref ato])) ∧ M9 am = some ((1, 6), .inl (gcs G 0, 32, .inl (cpT g 4 (4 * ai) (4 * (mc - 1) - 4 * ai)))) ∧ gFr (gL [o, am]) M M9 ∧ k9 = 0)) 0 0 (gA G) := by
  refine gMet [(0, .ref o), (1, .int x)] (by decide) (Nat.le_of_ble_eq_true rfl) rfl ?_
  intro p e s m below meth c hC
  refine g_aload_n hC dX8_removeMessage_0 0 rfl gRef_r 1 rfl ?_
  refine g_iload_n hC dX8_removeMessage_1 1 rfl 2 rfl ?_
  refine g_calliP (g_V (As := [.int x]) (rest := []) hC mvX8_messageOf q3315 (gOf.of hC.K cI7 hM_0) (met_T_messageOf l G M o av asp ak aik atx le am mc aa pl ato g x ai hmc hai hax hbf hM_0 hM_1) ⟨rfl, rfl⟩ ⟨(Nat.le_of_ble_eq_true rfl), (Nat.le_of_ble_eq_true rfl)⟩ rfl (Nat.le_of_ble_eq_true rfl) dX8_removeMessage_2 rfl ⟨(Nat.le_of_ble_eq_true rfl), (Nat.le_of_ble_eq_true rfl)⟩) 5 rfl 0 (Nat.le_of_ble_eq_true rfl) ?_
  refine g_istore_n hC dX8_removeMessage_5 rfl (Nat.le_of_ble_eq_true rfl) [(2, .int (nI ai)), (0, .ref o), (1, .int x)] rfl 6 rfl ?_
  refine g_iload_n hC dX8_removeMessage_6 0 rfl 7 rfl ?_
  refine g_if_ge hC dX8_removeMessage_7 13 rfl 10 rfl (fun c_1 => ?_) (fun c_1 => ?_)
  · replace c_1 : 0 ≤ ai := nn_le (by omega) (by omega) c_1
    obtain ⟨m1, rfl⟩ : ∃ z, mc = z + 1 := ⟨mc - 1, by omega⟩
    refine g_aload_n hC dX8_removeMessage_13 1 rfl gRef_r 14 rfl ?_
    refine g_dup hC dX8_removeMessage_14 rfl 15 rfl ?_
    refine g_get (v := .int (nI (m1 + 1))) hC cI7 hM_0 7 (Nat.le_of_ble_eq_true rfl) q2949 rfl dX8_removeMessage_15 18 rfl ?_
    refine g_iconst hC dX8_removeMessage_18 ki_1 19 rfl ?_
    refine g_isub hC dX8_removeMessage_19 20 rfl ?_
    refine g_topi (y := nI m1) (nI_s (a := (m1 + 1)) (b := 1) (c := m1) (by omega)) ?_
    refine g_put hC cI7 hM_0 7 (Nat.le_of_ble_eq_true rfl) q2949 rfl rfl rfl (Nat.le_of_ble_eq_true rfl) dX8_removeMessage_20 (fs' := [.ref av, .ref asp, .ref ak, .ref aik, .ref atx, .int le, .ref am, .int (nI m1), .ref aa, .int pl, .ref ato]) rfl 23 rfl (fun M2 hU3 => ?_)
    refine g_iconst hC dX8_removeMessage_23 ki_4 24 rfl ?_
    refine g_iload_n hC dX8_removeMessage_24 0 rfl 25 rfl ?_
    refine g_imul hC dX8_removeMessage_25 26 rfl ?_
    refine g_topi (y := nI (4 * ai)) (nI_m (a := 4) (b := ai) (c := (4 * ai)) (by omega)) ?_
    refine g_istore_n hC dX8_removeMessage_26 rfl (Nat.le_of_ble_eq_true rfl) [(3, .int (nI (4 * ai))), (2, .int (nI ai)), (0, .ref o), (1, .int x)] rfl 27 rfl ?_
    have loop27 : ∀ (n9 : Nat) (q : Nat) (F : Nat → Int32) (ML : gM), (h1 : 4 * ai ≤ q) → (h2 : q ≤ 4 * m1) → (hF : F = cpT g 4 (4 * ai) (q - 4 * ai)) → 4 * m1 - q < n9 → (ML o = some ((1, 0), .inr (7, [.ref av, .ref asp, .ref ak, .ref aik, .ref atx, .int le, .ref am, .int (nI m1), .ref aa, .int pl, .ref ato]))) → (ML am = some ((1, 6), .inl (gcs G 0, 32, .inl F))) → gFr (gL [o, am]) M ML → gJ p l e ({ frames := 1, cells := 0, slots := 0, locals := 22 } : Room) s m ([.ref o, .int x] : List Value).toArray below meth c G 4 (MQ below (gQi G (fun r9 M9 k9 => r9 = (nI ((m1 + 1) - 1)) ∧ M9 o = some ((1, 0), .inr (7, [.ref av, .ref asp, .ref ak, .ref aik, .ref atx, .int le, .ref am, .int (nI ((m1 + 1) - 1)), .ref aa, .int pl, .ref ato])) ∧ M9 am = some ((1, 6), .inl (gcs G 0, 32, .inl (cpT g 4 (4 * ai) (4 * ((m1 + 1) - 1) - 4 * ai)))) ∧ gFr (gL [o, am]) M M9 ∧ k9 = 0)) ([.ref o, .int x] : List Value).toArray s 0 0 (gA G)) 0 0 ML 27 [(0, .ref o), (1, .int x), (2, .int (nI ai)), (3, .int (nI q))] [] := by
      intro n9
      induction n9 with
      | zero => intro q F ML h1 h2 hF hmu; exact absurd hmu (Nat.not_lt_zero _)
      | succ n9 ih =>
        intro q F ML h1 h2 hF hmu hL_0 hL_1 hLF
        refine g_iload_n hC dX8_removeMessage_27 3 rfl 28 rfl ?_
        refine g_iconst hC dX8_removeMessage_28 ki_4 29 rfl ?_
        refine g_aload_n hC dX8_removeMessage_29 0 rfl gRef_r 30 rfl ?_
        refine g_get (v := .int (nI m1)) hC cI7 hL_0 7 (Nat.le_of_ble_eq_true rfl) q2949 rfl dX8_removeMessage_30 33 rfl ?_
        refine g_imul hC dX8_removeMessage_33 34 rfl ?_
        refine g_topi (y := nI (4 * m1)) (nI_m (a := 4) (b := m1) (c := (4 * m1)) (by omega)) ?_
        refine g_icmp_ge hC dX8_removeMessage_34 57 rfl 37 rfl (fun c_4 => ?_) (fun c_4 => ?_)
        · replace c_4 : 4 * m1 ≤ q := nn_le (by omega) (by omega) c_4
          refine g_aload_n hC dX8_removeMessage_57 0 rfl gRef_r 58 rfl ?_
          refine g_get (v := .int (nI m1)) hC cI7 hL_0 7 (Nat.le_of_ble_eq_true rfl) q2949 rfl dX8_removeMessage_58 61 rfl ?_
          exact g_iret (v := nI m1) hC (fun k9 hk9 => ⟨(by rw [Nat.add_sub_cancel]), (by rw [hL_0, Nat.add_sub_cancel]), (by rw [hL_1, hF, Nat.add_sub_cancel, show q - 4 * ai = 4 * m1 - 4 * ai by omega]), hLF, (by first | exact Nat.le_zero.mp hk9 | omega)⟩) dX8_removeMessage_61 (Nat.le_of_ble_eq_true rfl) (Nat.le_of_ble_eq_true rfl)
        · replace c_4 : q < 4 * m1 := nn_nle (by omega) (by omega) c_4
          refine g_aload_n hC dX8_removeMessage_37 0 rfl gRef_r 38 rfl ?_
          refine g_get (v := .ref am) hC cI7 hL_0 6 (Nat.le_of_ble_eq_true rfl) q2948 rfl dX8_removeMessage_38 41 rfl ?_
          refine g_iload_n hC dX8_removeMessage_41 3 rfl 42 rfl ?_
          refine g_aload_n hC dX8_removeMessage_42 0 rfl gRef_r 43 rfl ?_
          refine g_get (v := .ref am) hC cI7 hL_0 6 (Nat.le_of_ble_eq_true rfl) q2948 rfl dX8_removeMessage_43 46 rfl ?_
          refine g_iload_n hC dX8_removeMessage_46 3 rfl 47 rfl ?_
          refine g_iconst hC dX8_removeMessage_47 ki_4 48 rfl ?_
          refine g_iadd hC dX8_removeMessage_48 49 rfl ?_
          refine g_topi (y := nI (q + 4)) (nI_a (a := q) (b := 4) (c := (q + 4)) (by omega)) ?_
          refine g_iald (v := F (q + 4)) hC hL_1 0 rfl (vp_in_nI (by omega) (by omega)) ((congrArg F (nI_clamp (by omega))).trans rfl) dX8_removeMessage_49 50 rfl ?_
          refine g_iast hC hL_1 0 rfl (vp_in_nI (by omega) (by omega)) q (nI_clamp (by omega)) dX8_removeMessage_50 51 rfl (fun M5 hU6 => ?_)
          obtain ⟨F7, eF8⟩ : ∃ z9, z9 = upd F q (F (q + 4)) := ⟨_, rfl⟩
          rw [← eF8] at hU6
          refine g_iinc hC dX8_removeMessage_51 3 rfl (v := nI (q + 1)) (by rw [ki_1]; exact nI_a (a := q) (b := 1) (c := (q + 1)) (by omega)) (Nat.le_of_ble_eq_true rfl) [(3, .int (nI (q + 1))), (0, .ref o), (1, .int x), (2, .int (nI ai))] rfl 54 rfl ?_
          refine g_goto hC dX8_removeMessage_54 27 rfl ?_
          refine gJ.sub (M' := M5) [1, 2, 3, 0] rfl ?_
          exact ih (q + 1) F7 M5 (by omega) (by omega) (by rw [eF8, show q + 1 - 4 * ai = (q - 4 * ai) + 1 by omega]; show _ = upd (cpT _ 4 _ _) _ _; rw [← hF, show 4 * ai + (q - 4 * ai) = q by omega]) (by omega) (hU6.n (gne_oa hL_0 hL_1) hL_0) hU6.1 (hLF.up hU6 hL_1 (by simp))
    refine gJ.sub (M' := M2) [2, 3, 1, 0] rfl ?_
    exact loop27 _ (4 * ai) g M2 (by omega) (by omega) (by rw [Nat.sub_self]; rfl) (Nat.lt_succ_self _) hU3.1 (hU3.n (gne_ao hM_1 hM_0) hM_1) (gFr.refl.up hU3 hM_0 (by simp))
  · replace c_1 : ai < 0 := nn_nle (by omega) (by omega) c_1
    exact absurd c_1 (Nat.not_lt_zero _)
