/-! the reference: a bit time of all nodes -/
set_option maxRecDepth 100000
def ivT (f : Nat → Int32) : Nat → Int32
  | 0 => 0
  | i + 1 => ivT f i ||| (if f (2 * i + 1029) = f 1024 then f (2 * i + 1030) else 0)
set_option maxHeartbeats 4000000 in
theorem met_T_inverted (l : Launch) (G : gG) (M : gM) (o : Nat) (av : Nat) (asp : Nat) (ak : Nat) (aik : Nat) (atx : Nat) (le : Int32) (am : Nat) (mn : Int32) (aa : Nat) (pl : Int32) (ato : Nat) (f : Nat → Int32) (nd : Nat) (hnd : f 1028 = nI nd) (hnd8 : nd ≤ 8) (hM_0 : M o = some ((1, 0), .inr (7, [.ref av, .ref asp, .ref ak, .ref aik, .ref atx, .int le, .ref am, .int mn, .ref aa, .int pl, .ref ato]))) (hM_1 : M av = some ((1, 1), .inl (gcs G 0, 1310, .inl f))) : Met l yX8_inverted (ws_ yX8_inverted cX8_inverted 3 (some .int)) ({ frames := 0, cells := 0, slots := 0, locals := 0 }) (gPc G [.ref o] M) (gQi G (fun r9 M9 k9 => r9 = (ivT f nd) ∧ M9 = M ∧ k9 = 0)) 0 0 (gA G) := by
  refine gMet [(0, .ref o)] (by decide) (Nat.le_of_ble_eq_true rfl) rfl ?_
  intro p e s m below meth c hC
  refine g_iconst hC dX8_inverted_0 ki_0 1 rfl ?_
  refine g_istore_n hC dX8_inverted_1 rfl (Nat.le_of_ble_eq_true rfl) [(1, .int 0), (0, .ref o)] rfl 2 rfl ?_
  refine g_iconst hC dX8_inverted_2 ki_0 3 rfl ?_
  refine g_istore_n hC dX8_inverted_3 rfl (Nat.le_of_ble_eq_true rfl) [(2, .int 0), (1, .int 0), (0, .ref o)] rfl 4 rfl ?_
  have loop4 : ∀ (n9 : Nat) (i : Nat) (r : Int32), (hi : i ≤ nd) → (hr : r = ivT f i) → nd - i < n9 → (M o = some ((1, 0), .inr (7, [.ref av, .ref asp, .ref ak, .ref aik, .ref atx, .int le, .ref am, .int mn, .ref aa, .int pl, .ref ato]))) → (M av = some ((1, 1), .inl (gcs G 0, 1310, .inl f))) → gJ p l e ({ frames := 0, cells := 0, slots := 0, locals := 0 } : Room) s m ([.ref o] : List Value).toArray below meth c G 3 (MQ below (gQi G (fun r9 M9 k9 => r9 = (ivT f nd) ∧ M9 = M ∧ k9 = 0)) ([.ref o] : List Value).toArray s 0 0 (gA G)) 0 0 M 4 [(0, .ref o), (1, .int r), (2, .int (nI i))] [] := by
    intro n9
    induction n9 with
    | zero => intro i r hi hr hmu; exact absurd hmu (Nat.not_lt_zero _)
    | succ n9 ih =>
      intro i r hi hr hmu hL_0 hL_1
      refine g_iload_n hC dX8_inverted_4 2 rfl 5 rfl ?_
      refine g_aload_n hC dX8_inverted_5 0 rfl gRef_r 6 rfl ?_
      refine g_get (v := .ref av) hC cI7 hL_0 0 (Nat.le_of_ble_eq_true rfl) q2942 rfl dX8_inverted_6 9 rfl ?_
      refine g_sipush hC dX8_inverted_9 ks_1028 12 rfl ?_
      refine g_iald (v := nI nd) hC hL_1 0 rfl (vp_in_nI (n := 1028) (by first | decide | omega) (by first | decide | omega)) ((congrArg f (nI_clamp (n := 1028) (by decide))).trans hnd) dX8_inverted_12 13 rfl ?_
      refine g_icmp_ge hC dX8_inverted_13 66 rfl 16 rfl (fun c_1 => ?_) (fun c_1 => ?_)
      · replace c_1 : nd ≤ i := nn_le (by omega) (by omega) c_1
        refine g_iload_n hC dX8_inverted_66 1 rfl 67 rfl ?_
        exact g_iret (v := r) hC (fun k9 hk9 => ⟨(by rw [hr, show i = nd by omega]), rfl, Nat.le_zero.mp hk9⟩) dX8_inverted_67 (Nat.le_of_ble_eq_true rfl) (Nat.le_of_ble_eq_true rfl)
      · replace c_1 : i < nd := nn_nle (by omega) (by omega) c_1
        refine g_iload_n hC dX8_inverted_16 1 rfl 17 rfl ?_
        refine g_aload_n hC dX8_inverted_17 0 rfl gRef_r 18 rfl ?_
        refine g_get (v := .ref av) hC cI7 hL_0 0 (Nat.le_of_ble_eq_true rfl) q2942 rfl dX8_inverted_18 21 rfl ?_
        refine g_sipush hC dX8_inverted_21 ks_1029 24 rfl ?_
        refine g_iconst hC dX8_inverted_24 ki_2 25 rfl ?_
        refine g_iload_n hC dX8_inverted_25 2 rfl 26 rfl ?_
        refine g_imul hC dX8_inverted_26 27 rfl ?_
        refine g_topi (y := nI (2 * i)) (nI_m (a := 2) (b := i) (c := (2 * i)) (by omega)) ?_
        refine g_iadd hC dX8_inverted_27 28 rfl ?_
        refine g_topi (y := nI (2 * i + 1029)) (nI_a (a := 1029) (b := (2 * i)) (c := (2 * i + 1029)) (by omega)) ?_
        refine g_iald (v := f (2 * i + 1029)) hC hL_1 0 rfl (vp_in_nI (by omega) (by omega)) ((congrArg f (nI_clamp (by omega))).trans rfl) dX8_inverted_28 29 rfl ?_
        refine g_aload_n hC dX8_inverted_29 0 rfl gRef_r 30 rfl ?_
        refine g_get (v := .ref av) hC cI7 hL_0 0 (Nat.le_of_ble_eq_true rfl) q2942 rfl dX8_inverted_30 33 rfl ?_
        refine g_sipush hC dX8_inverted_33 ks_1024 36 rfl ?_
        refine g_iald (v := f 1024) hC hL_1 0 rfl (vp_in_nI (n := 1024) (by first | decide | omega) (by first | decide | omega)) ((congrArg f (nI_clamp (n := 1024) (by decide))).trans rfl) dX8_inverted_36 37 rfl ?_
        refine g_icmp_ne hC dX8_inverted_37 57 rfl 40 rfl (fun c_2 => ?_) (fun c_2 => ?_)
        · refine g_iconst hC dX8_inverted_57 ki_0 58 rfl ?_
          refine g_ior hC dX8_inverted_58 59 rfl ?_
          refine g_istore_n hC dX8_inverted_59 rfl (Nat.le_of_ble_eq_true rfl) [(1, .int (r ||| 0)), (0, .ref o), (2, .int (nI i))] rfl 60 rfl ?_
          refine g_iinc hC dX8_inverted_60 2 rfl (v := nI (i + 1)) (by rw [ki_1]; exact nI_a (a := i) (b := 1) (c := (i + 1)) (by omega)) (Nat.le_of_ble_eq_true rfl) [(2, .int (nI (i + 1))), (1, .int (r ||| 0)), (0, .ref o)] rfl 63 rfl ?_
          refine g_goto hC dX8_inverted_63 4 rfl ?_
          refine gJ.sub (M' := M) [2, 1, 0] rfl ?_
          exact ih (i + 1) (r ||| 0) (by omega) (by rw [hr]; simp only [ivT, eq_true c_1, eq_false c_2, if_true, if_false]) (by omega) hL_0 hL_1
        · refine g_aload_n hC dX8_inverted_40 0 rfl gRef_r 41 rfl ?_
          refine g_get (v := .ref av) hC cI7 hL_0 0 (Nat.le_of_ble_eq_true rfl) q2942 rfl dX8_inverted_41 44 rfl ?_
          refine g_sipush hC dX8_inverted_44 ks_1029 47 rfl ?_
          refine g_iconst hC dX8_inverted_47 ki_2 48 rfl ?_
          refine g_iload_n hC dX8_inverted_48 2 rfl 49 rfl ?_
          refine g_imul hC dX8_inverted_49 50 rfl ?_
          refine g_topi (y := nI (2 * i)) (nI_m (a := 2) (b := i) (c := (2 * i)) (by omega)) ?_
          refine g_iadd hC dX8_inverted_50 51 rfl ?_
          refine g_topi (y := nI (2 * i + 1029)) (nI_a (a := 1029) (b := (2 * i)) (c := (2 * i + 1029)) (by omega)) ?_
          refine g_iconst hC dX8_inverted_51 ki_1 52 rfl ?_
          refine g_iadd hC dX8_inverted_52 53 rfl ?_
          refine g_topi (y := nI (2 * i + 1030)) (nI_a (a := (2 * i + 1029)) (b := 1) (c := (2 * i + 1030)) (by omega)) ?_
          refine g_iald (v := f (2 * i + 1030)) hC hL_1 0 rfl (vp_in_nI (by omega) (by omega)) ((congrArg f (nI_clamp (by omega))).trans rfl) dX8_inverted_53 54 rfl ?_
          refine g_goto hC dX8_inverted_54 58 rfl ?_
          refine g_ior hC dX8_inverted_58 59 rfl ?_
          refine g_istore_n hC dX8_inverted_59 rfl (Nat.le_of_ble_eq_true rfl) [(1, .int (r ||| (f (2 * i + 1030)))), (0, .ref o), (2, .int (nI i))] rfl 60 rfl ?_
          refine g_iinc hC dX8_inverted_60 2 rfl (v := nI (i + 1)) (by rw [ki_1]; exact nI_a (a := i) (b := 1) (c := (i + 1)) (by omega)) (Nat.le_of_ble_eq_true rfl) [(2, .int (nI (i + 1))), (1, .int (r ||| (f (2 * i + 1030)))), (0, .ref o)] rfl 63 rfl ?_
          refine g_goto hC dX8_inverted_63 4 rfl ?_
          refine gJ.sub (M' := M) [2, 1, 0] rfl ?_
          exact ih (i + 1) (r ||| (f (2 * i + 1030))) (by omega) (by rw [hr]; simp only [ivT, eq_true c_1, eq_true c_2, if_true, if_false]) (by omega) hL_0 hL_1
  refine gJ.sub (M' := M) [2, 1, 0] rfl ?_
  exact loop4 _ 0 0 (by omega) rfl (Nat.lt_succ_self _) hM_0 hM_1
def psT : Nat → Nat → Nat → (Nat → Int32) → (Nat → Int32) × Nat
  | 0, _, n, F => (F, n)
  | j + 1, i, n, F => if F (2 * i + 1029) < F 1024 then psT j (i + 1) n F else
    let F1 := upd F (2 * n + 1029) (F (2 * i + 1029))
    psT j (i + 1) (n + 1) (upd F1 (2 * n + 1030) (F1 (2 * i + 1030)))
def T_pass (f : Nat → Int32) (nd : Nat) : Nat → Int32 := upd (psT nd 0 0 f).1 1028 (nI (psT nd 0 0 f).2)
set_option maxHeartbeats 4000000 in
theorem met_T_passes (l : Launch) (G : gG) (M : gM) (o : Nat) (av : Nat) (asp : Nat) (ak : Nat) (aik : Nat) (atx : Nat) (le : Int32) (am : Nat) (mn : Int32) (aa : Nat) (pl : Int32) (ato : Nat) (f : Nat → Int32) (nd : Nat) (hnd : f 1028 = nI nd) (hnd8 : nd ≤ 8) (hM_0 : M o = some ((1, 0), .inr (7, [.ref av, .ref asp, .ref ak, .ref aik, .ref atx, .int le, .ref am, .int mn, .ref aa, .int pl, .ref ato]))) (hM_1 : M av = some ((1, 1), .inl (gcs G 0, 1310, .inl f))) : Met l yX8_passes (ws_ yX8_passes cX8_passes 3 none) ({ frames := 0, cells := 0, slots := 0, locals := 0 }) (gPc G [.ref o] M) (gQv G (fun M9 k9 => M9 av = some ((1, 1), .inl (gcs G 0, 1310, .inl (T_pass f nd))) ∧ gFr (gL [av]) M M9 ∧ k9 = 0)) 0 0 (gA G) := by
  refine gMet [(0, .ref o)] (by decide) (Nat.le_of_ble_eq_true rfl) rfl ?_
  intro p e s m below meth c hC
  refine g_iconst hC dX8_passes_0 ki_0 1 rfl ?_
  refine g_istore_n hC dX8_passes_1 rfl (Nat.le_of_ble_eq_true rfl) [(1, .int 0), (0, .ref o)] rfl 2 rfl ?_
  refine g_iconst hC dX8_passes_2 ki_0 3 rfl ?_
  refine g_istore_n hC dX8_passes_3 rfl (Nat.le_of_ble_eq_true rfl) [(2, .int 0), (1, .int 0), (0, .ref o)] rfl 4 rfl ?_
  have loop4 : ∀ (n9 : Nat) (i : Nat) (n0 : Nat) (F : Nat → Int32) (ML : gM), (hi : i ≤ nd) → (hn : n0 ≤ i) → (h28 : F 1028 = nI nd) → (hr : psT (nd - i) i n0 F = psT nd 0 0 f) → nd - i < n9 → (ML o = some ((1, 0), .inr (7, [.ref av, .ref asp, .ref ak, .ref aik, .ref atx, .int le, .ref am, .int mn, .ref aa, .int pl, .ref ato]))) → (ML av = some ((1, 1), .inl (gcs G 0, 1310, .inl F))) → gFr (gL [av]) M ML → gJ p l e ({ frames := 0, cells := 0, slots := 0, locals := 0 } : Room) s m ([.ref o] : List Value).toArray below meth c G 3 (MQ below (gQv G (fun M9 k9 => M9 av = some ((1, 1), .inl (gcs G 0, 1310, .inl (T_pass f nd))) ∧ gFr (gL [av]) M M9 ∧ k9 = 0)) ([.ref o] : List Value).toArray s 0 0 (gA G)) 0 0 ML 4 [(0, .ref o), (1, .int (nI n0)), (2, .int (nI i))] [] := by
    intro n9
    induction n9 with
    | zero => intro i n0 F ML hi hn h28 hr hmu; exact absurd hmu (Nat.not_lt_zero _)
    | succ n9 ih =>
      intro i n0 F ML hi hn h28 hr hmu hL_0 hL_1 hLF
      refine g_iload_n hC dX8_passes_4 2 rfl 5 rfl ?_
      refine g_aload_n hC dX8_passes_5 0 rfl gRef_r 6 rfl ?_
      refine g_get (v := .ref av) hC cI7 hL_0 0 (Nat.le_of_ble_eq_true rfl) q2942 rfl dX8_passes_6 9 rfl ?_
      refine g_sipush hC dX8_passes_9 ks_1028 12 rfl ?_
      refine g_iald (v := nI nd) hC hL_1 0 rfl (vp_in_nI (n := 1028) (by first | decide | omega) (by first | decide | omega)) ((congrArg F (nI_clamp (n := 1028) (by decide))).trans h28) dX8_passes_12 13 rfl ?_
      refine g_icmp_ge hC dX8_passes_13 100 rfl 16 rfl (fun c_1 => ?_) (fun c_1 => ?_)
      · replace c_1 : nd ≤ i := nn_le (by omega) (by omega) c_1
        refine g_aload_n hC dX8_passes_100 0 rfl gRef_r 101 rfl ?_
        refine g_get (v := .ref av) hC cI7 hL_0 0 (Nat.le_of_ble_eq_true rfl) q2942 rfl dX8_passes_101 104 rfl ?_
        refine g_sipush hC dX8_passes_104 ks_1028 107 rfl ?_
        refine g_iload_n hC dX8_passes_107 1 rfl 108 rfl ?_
        refine g_iast hC hL_1 0 rfl (vp_in_nI (n := 1028) (by first | decide | omega) (by first | decide | omega)) 1028 (nI_clamp (n := 1028) (by decide)) dX8_passes_108 109 rfl (fun M2 hU3 => ?_)
        obtain ⟨F4, eF5⟩ : ∃ z, z = upd F 1028 (nI n0) := ⟨_, rfl⟩
        rw [← eF5] at hU3
        exact g_vret hC (fun k9 hk9 => ⟨(by rw [hU3.1]; have hq : psT nd 0 0 f = (F, n0) := (by rw [← hr, show nd - i = 0 by omega]; rfl); simp only [T_pass, hq, ← eF5]), (hLF.up hU3 hL_1 (by simp)), (by first | exact Nat.le_zero.mp hk9 | omega)⟩) dX8_passes_109 (Nat.le_of_ble_eq_true rfl) (Nat.le_of_ble_eq_true rfl)
      · replace c_1 : i < nd := nn_nle (by omega) (by omega) c_1
        refine g_aload_n hC dX8_passes_16 0 rfl gRef_r 17 rfl ?_
        refine g_get (v := .ref av) hC cI7 hL_0 0 (Nat.le_of_ble_eq_true rfl) q2942 rfl dX8_passes_17 20 rfl ?_
        refine g_sipush hC dX8_passes_20 ks_1029 23 rfl ?_
        refine g_iconst hC dX8_passes_23 ki_2 24 rfl ?_
        refine g_iload_n hC dX8_passes_24 2 rfl 25 rfl ?_
        refine g_imul hC dX8_passes_25 26 rfl ?_
        refine g_topi (y := nI (2 * i)) (nI_m (a := 2) (b := i) (c := (2 * i)) (by omega)) ?_
        refine g_iadd hC dX8_passes_26 27 rfl ?_
        refine g_topi (y := nI (2 * i + 1029)) (nI_a (a := 1029) (b := (2 * i)) (c := (2 * i + 1029)) (by omega)) ?_
        refine g_iald (v := F (2 * i + 1029)) hC hL_1 0 rfl (vp_in_nI (by omega) (by omega)) ((congrArg F (nI_clamp (by omega))).trans rfl) dX8_passes_27 28 rfl ?_
        refine g_aload_n hC dX8_passes_28 0 rfl gRef_r 29 rfl ?_
        refine g_get (v := .ref av) hC cI7 hL_0 0 (Nat.le_of_ble_eq_true rfl) q2942 rfl dX8_passes_29 32 rfl ?_
        refine g_sipush hC dX8_passes_32 ks_1024 35 rfl ?_
        refine g_iald (v := F 1024) hC hL_1 0 rfl (vp_in_nI (n := 1024) (by first | decide | omega) (by first | decide | omega)) ((congrArg F (nI_clamp (n := 1024) (by decide))).trans rfl) dX8_passes_35 36 rfl ?_
        refine g_icmp_lt hC dX8_passes_36 94 rfl 39 rfl (fun c_6 => ?_) (fun c_6 => ?_)
        · refine g_iinc hC dX8_passes_94 2 rfl (v := nI (i + 1)) (by rw [ki_1]; exact nI_a (a := i) (b := 1) (c := (i + 1)) (by omega)) (Nat.le_of_ble_eq_true rfl) [(2, .int (nI (i + 1))), (0, .ref o), (1, .int (nI n0))] rfl 97 rfl ?_
          refine g_goto hC dX8_passes_97 4 rfl ?_
          refine gJ.sub (M' := ML) [1, 2, 0] rfl ?_
          exact ih (i + 1) n0 F ML (by omega) (by omega) h28 (by rw [← hr, show nd - i = (nd - (i + 1)) + 1 by omega]; simp only [psT, eq_true c_1, eq_true c_6, eq_false (Int32.not_le.mpr c_6), if_true, if_false]) (by omega) hL_0 hL_1 hLF
        · refine g_aload_n hC dX8_passes_39 0 rfl gRef_r 40 rfl ?_
          refine g_get (v := .ref av) hC cI7 hL_0 0 (Nat.le_of_ble_eq_true rfl) q2942 rfl dX8_passes_40 43 rfl ?_
          refine g_sipush hC dX8_passes_43 ks_1029 46 rfl ?_
          refine g_iconst hC dX8_passes_46 ki_2 47 rfl ?_
          refine g_iload_n hC dX8_passes_47 1 rfl 48 rfl ?_
          refine g_imul hC dX8_passes_48 49 rfl ?_
          refine g_topi (y := nI (2 * n0)) (nI_m (a := 2) (b := n0) (c := (2 * n0)) (by omega)) ?_
          refine g_iadd hC dX8_passes_49 50 rfl ?_
          refine g_topi (y := nI (2 * n0 + 1029)) (nI_a (a := 1029) (b := (2 * n0)) (c := (2 * n0 + 1029)) (by omega)) ?_
          refine g_aload_n hC dX8_passes_50 0 rfl gRef_r 51 rfl ?_
          refine g_get (v := .ref av) hC cI7 hL_0 0 (Nat.le_of_ble_eq_true rfl) q2942 rfl dX8_passes_51 54 rfl ?_
          refine g_sipush hC dX8_passes_54 ks_1029 57 rfl ?_
          refine g_iconst hC dX8_passes_57 ki_2 58 rfl ?_
          refine g_iload_n hC dX8_passes_58 2 rfl 59 rfl ?_
          refine g_imul hC dX8_passes_59 60 rfl ?_
          refine g_topi (y := nI (2 * i)) (nI_m (a := 2) (b := i) (c := (2 * i)) (by omega)) ?_
          refine g_iadd hC dX8_passes_60 61 rfl ?_
          refine g_topi (y := nI (2 * i + 1029)) (nI_a (a := 1029) (b := (2 * i)) (c := (2 * i + 1029)) (by omega)) ?_
          refine g_iald (v := F (2 * i + 1029)) hC hL_1 0 rfl (vp_in_nI (by omega) (by omega)) ((congrArg F (nI_clamp (by omega))).trans rfl) dX8_passes_61 62 rfl ?_
          refine g_iast hC hL_1 0 rfl (vp_in_nI (by omega) (by omega)) (2 * n0 + 1029) (nI_clamp (by omega)) dX8_passes_62 63 rfl (fun M7 hU8 => ?_)
          obtain ⟨F9, eF10⟩ : ∃ z, z = upd F (2 * n0 + 1029) (F (2 * i + 1029)) := ⟨_, rfl⟩
          rw [← eF10] at hU8
          refine g_aload_n hC dX8_passes_63 0 rfl gRef_r 64 rfl ?_
          refine g_get (v := .ref av) hC cI7 (hU8.n (gne_oa hL_0 hL_1) hL_0) 0 (Nat.le_of_ble_eq_true rfl) q2942 rfl dX8_passes_64 67 rfl ?_
          refine g_sipush hC dX8_passes_67 ks_1029 70 rfl ?_
          refine g_iconst hC dX8_passes_70 ki_2 71 rfl ?_
          refine g_iload_n hC dX8_passes_71 1 rfl 72 rfl ?_
          refine g_imul hC dX8_passes_72 73 rfl ?_
          refine g_topi (y := nI (2 * n0)) (nI_m (a := 2) (b := n0) (c := (2 * n0)) (by omega)) ?_
          refine g_iadd hC dX8_passes_73 74 rfl ?_
          refine g_topi (y := nI (2 * n0 + 1029)) (nI_a (a := 1029) (b := (2 * n0)) (c := (2 * n0 + 1029)) (by omega)) ?_
          refine g_iconst hC dX8_passes_74 ki_1 75 rfl ?_
          refine g_iadd hC dX8_passes_75 76 rfl ?_
          refine g_topi (y := nI (2 * n0 + 1030)) (nI_a (a := (2 * n0 + 1029)) (b := 1) (c := (2 * n0 + 1030)) (by omega)) ?_
          refine g_aload_n hC dX8_passes_76 0 rfl gRef_r 77 rfl ?_
          refine g_get (v := .ref av) hC cI7 (hU8.n (gne_oa hL_0 hL_1) hL_0) 0 (Nat.le_of_ble_eq_true rfl) q2942 rfl dX8_passes_77 80 rfl ?_
          refine g_sipush hC dX8_passes_80 ks_1029 83 rfl ?_
          refine g_iconst hC dX8_passes_83 ki_2 84 rfl ?_
          refine g_iload_n hC dX8_passes_84 2 rfl 85 rfl ?_
          refine g_imul hC dX8_passes_85 86 rfl ?_
          refine g_topi (y := nI (2 * i)) (nI_m (a := 2) (b := i) (c := (2 * i)) (by omega)) ?_
          refine g_iadd hC dX8_passes_86 87 rfl ?_
          refine g_topi (y := nI (2 * i + 1029)) (nI_a (a := 1029) (b := (2 * i)) (c := (2 * i + 1029)) (by omega)) ?_
          refine g_iconst hC dX8_passes_87 ki_1 88 rfl ?_
          refine g_iadd hC dX8_passes_88 89 rfl ?_
          refine g_topi (y := nI (2 * i + 1030)) (nI_a (a := (2 * i + 1029)) (b := 1) (c := (2 * i + 1030)) (by omega)) ?_
          refine g_iald (v := F9 (2 * i + 1030)) hC hU8.1 0 rfl (vp_in_nI (by omega) (by omega)) ((congrArg F9 (nI_clamp (by omega))).trans rfl) dX8_passes_89 90 rfl ?_
          refine g_iast hC hU8.1 0 rfl (vp_in_nI (by omega) (by omega)) (2 * n0 + 1030) (nI_clamp (by omega)) dX8_passes_90 91 rfl (fun M11 hU12 => ?_)
          obtain ⟨F13, eF14⟩ : ∃ z, z = upd F9 (2 * n0 + 1030) (F9 (2 * i + 1030)) := ⟨_, rfl⟩
          rw [← eF14] at hU12
          refine g_iinc hC dX8_passes_91 1 rfl (v := nI (n0 + 1)) (by rw [ki_1]; exact nI_a (a := n0) (b := 1) (c := (n0 + 1)) (by omega)) (Nat.le_of_ble_eq_true rfl) [(1, .int (nI (n0 + 1))), (0, .ref o), (2, .int (nI i))] rfl 94 rfl ?_
          refine g_iinc hC dX8_passes_94 2 rfl (v := nI (i + 1)) (by rw [ki_1]; exact nI_a (a := i) (b := 1) (c := (i + 1)) (by omega)) (Nat.le_of_ble_eq_true rfl) [(2, .int (nI (i + 1))), (1, .int (nI (n0 + 1))), (0, .ref o)] rfl 97 rfl ?_
          refine g_goto hC dX8_passes_97 4 rfl ?_
          refine gJ.sub (M' := M11) [2, 1, 0] rfl ?_
          exact ih (i + 1) (n0 + 1) F13 M11 (by omega) (by omega) (by rw [eF14, pk_un (by omega), eF10, pk_un (by omega)]; exact h28) (by rw [← hr, show nd - i = (nd - (i + 1)) + 1 by omega]; simp only [psT, ← eF10, ← eF14, eq_true c_1, eq_false c_6, eq_true (Int32.not_lt.mp c_6), if_true, if_false]) (by omega) (hU12.n (gne_oa (hU8.n (gne_oa hL_0 hL_1) hL_0) hU8.1) (hU8.n (gne_oa hL_0 hL_1) hL_0)) hU12.1 ((hLF.up hU8 hL_1 (by simp)).up hU12 hU8.1 (by simp))
  refine gJ.sub (M' := M) [2, 1, 0] rfl ?_
  exact loop4 _ 0 0 f M (by omega) (by omega) hnd rfl (Nat.lt_succ_self _) hM_0 hM_1 gFr.refl
def okS (f : Nat → Int32) (k : Nat) : Prop :=
  (f (256 * k) = nI (nPh f k) ∧ nPh f k < 10) ∧ (f (256 * k + 19) = nI (nB f k) ∧ nB f k ≤ 66) ∧ nNb f k ≤ 51 ∧ (nPh f k = 4 → (f (256 * k + 22) = 1 ∨ f (256 * k + 22) = 2) → T_total f k = nI (nNb f k + 15)) ∧
  (f (256 * k + 25) = nI (nNa f k) ∧ nNa f k ≤ 4) ∧ (f (256 * k + 23) = nI (nNw f k) ∧ nNw f k ≤ 4) ∧ (f (256 * k + 24) = nI (nNr f k) ∧ nNr f k ≤ 6) ∧ nLn f k ≤ 4 ∧ (nPh f k = 4 → f (256 * k + 22) = 8 → smT f (256 * k + 15 + 90) 4 = nI (nLn f k)) ∧
  (nPh f k = 4 → f (256 * k + 22) = 9 → f (256 * k + 1) = 1 → 1 ≤ nNw f k ∧ ¬ f (256 * k + 5 * nSx f k + 34) = 0) ∧
  nLw f k ≤ 4 ∧ (1 ≤ nNw f k → f (256 * k + 31) = bI (nRm f k) ∧ f (256 * k + 32) = nI (nLw f k))
/-- the same block, but for what a node drives -/
def cgB (k : Nat) (F f : Nat → Int32) : Prop := ∀ c, c < 256 → c ≠ 26 → F (256 * k + c) = f (256 * k + c)
theorem smT_c {F f : Nat → Int32} {b n : Nat} (h : ∀ j, j < n → F (b + j) = f (b + j)) : smT F b n = smT f b n := by
  induction n with
  | zero => rfl
  | succ n ih =>
    show (smT F b n <<< _) ||| F (b + n) = (smT f b n <<< _) ||| f (b + n)
    rw [ih (fun j hj => h j (by omega)), h n (by omega)]
theorem cgB.sm {k a n : Nat} {F f : Nat → Int32} (h : cgB k F f) (ha : 90 ≤ a) (hn : a + n ≤ 256) : smT F (256 * k + a) n = smT f (256 * k + a) n := smT_c (fun j hj => by rw [Nat.add_assoc]; exact h _ (by omega) (by omega))
theorem cgB.tot {k : Nat} {F f : Nat → Int32} (h : cgB k F f) : T_total F k = T_total f k := by
  unfold T_total
  rw [h 19 (by omega) (by omega), h 102 (by omega) (by omega), show 256 * k + 15 + 90 = 256 * k + 105 by omega, h.sm (by omega) (by omega)]
theorem cgB.ph {k : Nat} {F f : Nat → Int32} (h : cgB k F f) : nPh F k = nPh f k := by unfold nPh; rw [show 256 * k = 256 * k + 0 by omega, h 0 (by omega) (by omega)]
theorem cgB.nb {k : Nat} {F f : Nat → Int32} (h : cgB k F f) : nNb F k = nNb f k := by unfold nNb; rw [h.tot, h.ph, h 22 (by omega) (by omega)]
theorem cgB.ln {k : Nat} {F f : Nat → Int32} (h : cgB k F f) : nLn F k = nLn f k := by unfold nLn; rw [h.ph, h 22 (by omega) (by omega), show 256 * k + 15 + 90 = 256 * k + 105 by omega, h.sm (by omega) (by omega)]
theorem cgB.sx {k : Nat} {F f : Nat → Int32} (h : cgB k F f) : nSx F k = nSx f k := by unfold nSx; rw [h 34 (by omega) (by omega), h 39 (by omega) (by omega), h 44 (by omega) (by omega)]
theorem okS.cg {k : Nat} {F f : Nat → Int32} (h : cgB k F f) (hok : okS f k) : okS F k := by
  have e0 : F (256 * k) = f (256 * k) := h 0 (by omega) (by omega)
  have eB : nB F k = nB f k := by unfold nB; rw [h 19 (by omega) (by omega)]
  have eA : nNa F k = nNa f k := by unfold nNa; rw [h 25 (by omega) (by omega)]
  have eW : nNw F k = nNw f k := by unfold nNw; rw [h 23 (by omega) (by omega)]
  have eR : nNr F k = nNr f k := by unfold nNr; rw [h 24 (by omega) (by omega)]
  have eL : nLw F k = nLw f k := by unfold nLw; rw [h 32 (by omega) (by omega)]
  have eM : nRm F k = nRm f k := by unfold nRm; rw [h 31 (by omega) (by omega)]
  have eS : smT F (256 * k + 15 + 90) 4 = smT f (256 * k + 15 + 90) 4 := by rw [show 256 * k + 15 + 90 = 256 * k + 105 by omega, h.sm (by omega) (by omega)]
  have eX : F (256 * k + 5 * nSx f k + 34) = f (256 * k + 5 * nSx f k + 34) := by have := nSx_le (f := f) (k := k); rw [Nat.add_assoc]; exact h _ (by omega) (by omega)
  unfold okS at hok ⊢
  rw [e0, eB, eA, eW, eR, eL, eM, h.ph, h.nb, h.ln, h.sx, h.tot, eS, eX, h 1 (by omega) (by omega), h 19 (by omega) (by omega), h 22 (by omega) (by omega), h 23 (by omega) (by omega), h 24 (by omega) (by omega), h 25 (by omega) (by omega), h 31 (by omega) (by omega), h 32 (by omega) (by omega)]
  exact hok
theorem okN.of {k : Nat} {f : Nat → Int32} (h : okS f k) (hd : nPh f k = 3 → f (256 * k + 26) = 0 → 1 ≤ nNw f k) : okN f k := by
  obtain ⟨h1, h2, h3, h4, h5, h6, h7, h8, h9, h10, h11, h12⟩ := h
  exact ⟨h1, h2, h3, h4, h5, h6, h7, h8, h9, h10, h11, fun a b => h12 (hd a b)⟩
/-- what a node drives says nothing else than its cells do -/
theorem okN.drv {k : Nat} {f : Nat → Int32} (h : okS f k) (hd : f (256 * k + 26) = T_drv f k) : okN f k := by
  refine okN.of h (fun h3 h0 => ?_)
  obtain ⟨-, -, -, -, -, h6, -⟩ := h
  rw [hd] at h0
  unfold T_drv T_drives at h0
  rw [if_pos h3, h6.1] at h0
  rcases Nat.eq_zero_or_pos (nNw f k) with q | q
  · rw [q] at h0
    exact absurd h0 (by decide)
  · exact q
theorem cgB.drv {k : Nat} {F f : Nat → Int32} (h : cgB k F f) (hB : nB f k ≤ 66) (hn : nNb f k ≤ 51) : T_drv F k = T_drv f k := by
  have eB : (F (256 * k + 19)).toNatClampNeg = (f (256 * k + 19)).toNatClampNeg := by rw [h 19 (by omega) (by omega)]
  have ec : ∀ n, n ≤ 60 → crcT F (256 * k + 90) n = crcT f (256 * k + 90) n := by
    intro n
    induction n with
    | zero => intro _; rfl
    | succ n ih =>
      intro hn
      show crcS (crcT F (256 * k + 90) n) (F (256 * k + 90 + n)) = crcS (crcT f (256 * k + 90) n) (f (256 * k + 90 + n))
      rw [ih (by omega), Nat.add_assoc, h _ (by omega) (by omega)]
  have eo : F (256 * k + (f (256 * k + 19)).toNatClampNeg + 160) = f (256 * k + (f (256 * k + 19)).toNatClampNeg + 160) := by
    have : (f (256 * k + 19)).toNatClampNeg = nB f k := rfl
    rw [this, Nat.add_assoc]
    exact h _ (by omega) (by omega)
  have es : smT F (256 * k + nNb f k + 90) 15 = smT f (256 * k + nNb f k + 90) 15 := by rw [Nat.add_assoc]; exact h.sm (by omega) (by omega)
  unfold T_drv T_drives T_drvF
  rw [h.ph, h.nb, ec _ (by omega), es, h 1 (by omega) (by omega), h 18 (by omega) (by omega), h 19 (by omega) (by omega), h 20 (by omega) (by omega), h 21 (by omega) (by omega), h 22 (by omega) (by omega), h 23 (by omega) (by omega), eo]
