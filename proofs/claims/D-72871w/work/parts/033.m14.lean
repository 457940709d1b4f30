/-! the reference: winner, slots, predictions, checksum, its making -/
set_option maxRecDepth 100000
theorem nI_nm5 : ∀ w, w < 4 → ¬ nI w = -5 := by decide +kernel
set_option maxHeartbeats 4000000 in
theorem met_T_winner (l : Launch) (G : gG) (M : gM) (o : Nat) (av : Nat) (asp : Nat) (ak : Nat) (aik : Nat) (atx : Nat) (le : Int32) (am : Nat) (mn : Int32) (aa : Nat) (pl : Int32) (ato : Nat) (f : Nat → Int32)  (hM_0 : M o = some ((1, 0), .inr (7, [.ref av, .ref asp, .ref ak, .ref aik, .ref atx, .int le, .ref am, .int mn, .ref aa, .int pl, .ref ato]))) (hM_1 : M av = some ((1, 1), .inl (gcs G 0, 1310, .inl f))) : Met l yX8_winner (ws_ yX8_winner cX8_winner 4 (some .int)) ({ frames := 2, cells := 0, slots := 0, locals := 44 }) (gPc G [.ref o] M) (gQi G (fun r9 M9 k9 => r9 = (winI (winT f 4)) ∧ M9 = M ∧ k9 = 0)) 0 0 (gA G) := by
  refine gMet [(0, .ref o)] (by decide) (Nat.le_of_ble_eq_true rfl) rfl ?_
  intro p e s m below meth c hC
  refine g_bipush hC dX8_winner_0 kb_m5 2 rfl ?_
  refine g_istore_n hC dX8_winner_2 rfl (Nat.le_of_ble_eq_true rfl) [(1, .int (-5)), (0, .ref o)] rfl 3 rfl ?_
  refine g_iconst hC dX8_winner_3 ki_0 4 rfl ?_
  refine g_istore_n hC dX8_winner_4 rfl (Nat.le_of_ble_eq_true rfl) [(2, .int 0), (1, .int (-5)), (0, .ref o)] rfl 5 rfl ?_
  have loop5 : ∀ (n9 : Nat) (i : Nat) (r : Option Nat) (z : Int32), (hz : z = winI r) → (hi : i ≤ 4) → (hrw : ∀ w, r = some w → w < i) → (hr : r = winT f i) → 4 - i < n9 → (M o = some ((1, 0), .inr (7, [.ref av, .ref asp, .ref ak, .ref aik, .ref atx, .int le, .ref am, .int mn, .ref aa, .int pl, .ref ato]))) → (M av = some ((1, 1), .inl (gcs G 0, 1310, .inl f))) → gJ p l e ({ frames := 2, cells := 0, slots := 0, locals := 44 } : Room) s m ([.ref o] : List Value).toArray below meth c G 4 (MQ below (gQi G (fun r9 M9 k9 => r9 = (winI (winT f 4)) ∧ M9 = M ∧ k9 = 0)) ([.ref o] : List Value).toArray s 0 0 (gA G)) 0 0 M 5 [(0, .ref o), (1, .int z), (2, .int (nI i))] [] := by
    intro n9
    induction n9 with
    | zero => intro i r z hz hi hrw hr hmu; exact absurd hmu (Nat.not_lt_zero _)
    | succ n9 ih =>
      intro i r z hz hi hrw hr hmu hL_0 hL_1
      refine g_iload_n hC dX8_winner_5 2 rfl 6 rfl ?_
      refine g_iconst hC dX8_winner_6 ki_4 7 rfl ?_
      refine g_icmp_ge hC dX8_winner_7 94 rfl 10 rfl (fun c_1 => ?_) (fun c_1 => ?_)
      · replace c_1 : 4 ≤ i := nn_le (by omega) (by omega) c_1
        refine g_iload_n hC dX8_winner_94 1 rfl 95 rfl ?_
        exact g_iret (v := z) hC (fun k9 hk9 => ⟨(by rw [hz, hr, show i = 4 by omega]), rfl, Nat.le_zero.mp hk9⟩) dX8_winner_95 (Nat.le_of_ble_eq_true rfl) (Nat.le_of_ble_eq_true rfl)
      · replace c_1 : i < 4 := nn_nle (by omega) (by omega) c_1
        refine g_aload_n hC dX8_winner_10 0 rfl gRef_r 11 rfl ?_
        refine g_get (v := .ref av) hC cI7 hL_0 0 (Nat.le_of_ble_eq_true rfl) q2942 rfl dX8_winner_11 14 rfl ?_
        refine g_iload_n hC dX8_winner_14 2 rfl 15 rfl ?_
        refine g_iconst hC dX8_winner_15 ki_0 16 rfl ?_
        refine g_calliP (g_S (As := [.int (nI i), .int 0]) (rest := [.ref av]) hC msX8_at q2939 (met_T_at l G M i 0) ⟨rfl, rfl⟩ ⟨(Nat.le_of_ble_eq_true rfl), (Nat.le_of_ble_eq_true rfl)⟩ rfl (Nat.le_of_ble_eq_true rfl) dX8_winner_16 rfl ⟨(Nat.le_of_ble_eq_true rfl), (Nat.le_of_ble_eq_true rfl)⟩) 19 rfl 0 (Nat.le_of_ble_eq_true rfl) ?_
        refine g_topi (y := nI (256 * i)) (congrArg nI (show (256 * i + 0) = 256 * i by omega)) ?_
        refine g_iald (v := f (256 * i)) hC hL_1 0 rfl (vp_in_nI (by omega) (by omega)) ((congrArg f (nI_clamp (by omega))).trans rfl) dX8_winner_19 20 rfl ?_
        refine g_if_eq hC dX8_winner_20 55 rfl 23 rfl (fun c_2 => ?_) (fun c_2 => ?_)
        · refine g_iconst hC dX8_winner_55 ki_0 56 rfl ?_
          refine g_istore_n hC dX8_winner_56 rfl (Nat.le_of_ble_eq_true rfl) [(3, .int 0), (0, .ref o), (1, .int z), (2, .int (nI i))] rfl 57 rfl ?_
          refine g_iload_n hC dX8_winner_57 0 rfl 58 rfl ?_
          refine g_if_eq hC dX8_winner_58 86 rfl 61 rfl (fun c_3 => ?_) (fun c_3 => ?_)
          · refine g_iload_n hC dX8_winner_86 2 rfl 87 rfl ?_
            refine g_istore_n hC dX8_winner_87 rfl (Nat.le_of_ble_eq_true rfl) [(1, .int z), (3, .int 0), (0, .ref o), (2, .int (nI i))] rfl 88 rfl ?_
            refine g_iinc hC dX8_winner_88 3 rfl (v := nI (i + 1)) (by rw [ki_1]; exact nI_a (a := i) (b := 1) (c := (i + 1)) (by omega)) (Nat.le_of_ble_eq_true rfl) [(2, .int (nI (i + 1))), (1, .int z), (3, .int 0), (0, .ref o)] rfl 91 rfl ?_
            refine g_goto hC dX8_winner_91 5 rfl ?_
            refine gJ.sub (M' := M) [3, 1, 0] rfl ?_
            exact ih (i + 1) r z hz (by omega) (fun w9 q9 => by first | (have := hrw w9 q9; omega) | (cases q9; omega) | cases q9) (by show _ = winS f i (winT f i); rw [← hr]; simp only [winS, eq_true c_1, eq_true c_2, eq_true c_3, if_true, if_false, true_and, and_true, false_and, and_false, true_or, or_true, false_or, or_false, not_true_eq_false, not_false_eq_true, reduceIte, decide_true, decide_false, Bool.false_eq_true]) (by omega) hL_0 hL_1
          · exact absurd c_3 (by decide)
        · refine g_aload_n hC dX8_winner_23 0 rfl gRef_r 24 rfl ?_
          refine g_get (v := .ref av) hC cI7 hL_0 0 (Nat.le_of_ble_eq_true rfl) q2942 rfl dX8_winner_24 27 rfl ?_
          refine g_iload_n hC dX8_winner_27 2 rfl 28 rfl ?_
          refine g_iconst hC dX8_winner_28 ki_0 29 rfl ?_
          refine g_calliP (g_S (As := [.int (nI i), .int 0]) (rest := [.ref av]) hC msX8_at q2939 (met_T_at l G M i 0) ⟨rfl, rfl⟩ ⟨(Nat.le_of_ble_eq_true rfl), (Nat.le_of_ble_eq_true rfl)⟩ rfl (Nat.le_of_ble_eq_true rfl) dX8_winner_29 rfl ⟨(Nat.le_of_ble_eq_true rfl), (Nat.le_of_ble_eq_true rfl)⟩) 32 rfl 0 (Nat.le_of_ble_eq_true rfl) ?_
          refine g_topi (y := nI (256 * i)) (congrArg nI (show (256 * i + 0) = 256 * i by omega)) ?_
          refine g_iald (v := f (256 * i)) hC hL_1 0 rfl (vp_in_nI (by omega) (by omega)) ((congrArg f (nI_clamp (by omega))).trans rfl) dX8_winner_32 33 rfl ?_
          refine g_iconst hC dX8_winner_33 ki_1 34 rfl ?_
          refine g_icmp_eq hC dX8_winner_34 55 rfl 37 rfl (fun c_4 => ?_) (fun c_4 => ?_)
          · refine g_iconst hC dX8_winner_55 ki_0 56 rfl ?_
            refine g_istore_n hC dX8_winner_56 rfl (Nat.le_of_ble_eq_true rfl) [(3, .int 0), (0, .ref o), (1, .int z), (2, .int (nI i))] rfl 57 rfl ?_
            refine g_iload_n hC dX8_winner_57 0 rfl 58 rfl ?_
            refine g_if_eq hC dX8_winner_58 86 rfl 61 rfl (fun c_5 => ?_) (fun c_5 => ?_)
            · refine g_iload_n hC dX8_winner_86 2 rfl 87 rfl ?_
              refine g_istore_n hC dX8_winner_87 rfl (Nat.le_of_ble_eq_true rfl) [(1, .int z), (3, .int 0), (0, .ref o), (2, .int (nI i))] rfl 88 rfl ?_
              refine g_iinc hC dX8_winner_88 3 rfl (v := nI (i + 1)) (by rw [ki_1]; exact nI_a (a := i) (b := 1) (c := (i + 1)) (by omega)) (Nat.le_of_ble_eq_true rfl) [(2, .int (nI (i + 1))), (1, .int z), (3, .int 0), (0, .ref o)] rfl 91 rfl ?_
              refine g_goto hC dX8_winner_91 5 rfl ?_
              refine gJ.sub (M' := M) [3, 1, 0] rfl ?_
              exact ih (i + 1) r z hz (by omega) (fun w9 q9 => by first | (have := hrw w9 q9; omega) | (cases q9; omega) | cases q9) (by show _ = winS f i (winT f i); rw [← hr]; simp only [winS, eq_true c_1, eq_false c_2, eq_true c_4, eq_true c_5, if_true, if_false, true_and, and_true, false_and, and_false, true_or, or_true, false_or, or_false, not_true_eq_false, not_false_eq_true, reduceIte, decide_true, decide_false, Bool.false_eq_true]) (by omega) hL_0 hL_1
            · exact absurd c_5 (by decide)
          · refine g_aload_n hC dX8_winner_37 0 rfl gRef_r 38 rfl ?_
            refine g_get (v := .ref av) hC cI7 hL_0 0 (Nat.le_of_ble_eq_true rfl) q2942 rfl dX8_winner_38 41 rfl ?_
            refine g_iload_n hC dX8_winner_41 2 rfl 42 rfl ?_
            refine g_bipush hC dX8_winner_42 kb_23 44 rfl ?_
            refine g_calliP (g_S (As := [.int (nI i), .int 23]) (rest := [.ref av]) hC msX8_at q2939 (met_T_at l G M i 23) ⟨rfl, rfl⟩ ⟨(Nat.le_of_ble_eq_true rfl), (Nat.le_of_ble_eq_true rfl)⟩ rfl (Nat.le_of_ble_eq_true rfl) dX8_winner_44 rfl ⟨(Nat.le_of_ble_eq_true rfl), (Nat.le_of_ble_eq_true rfl)⟩) 47 rfl 0 (Nat.le_of_ble_eq_true rfl) ?_
            refine g_iald (v := f (256 * i + 23)) hC hL_1 0 rfl (vp_in_nI (by omega) (by omega)) ((congrArg f (nI_clamp (by omega))).trans rfl) dX8_winner_47 48 rfl ?_
            refine g_if_le hC dX8_winner_48 55 rfl 51 rfl (fun c_6 => ?_) (fun c_6 => ?_)
            · refine g_iconst hC dX8_winner_55 ki_0 56 rfl ?_
              refine g_istore_n hC dX8_winner_56 rfl (Nat.le_of_ble_eq_true rfl) [(3, .int 0), (0, .ref o), (1, .int z), (2, .int (nI i))] rfl 57 rfl ?_
              refine g_iload_n hC dX8_winner_57 0 rfl 58 rfl ?_
              refine g_if_eq hC dX8_winner_58 86 rfl 61 rfl (fun c_7 => ?_) (fun c_7 => ?_)
              · refine g_iload_n hC dX8_winner_86 2 rfl 87 rfl ?_
                refine g_istore_n hC dX8_winner_87 rfl (Nat.le_of_ble_eq_true rfl) [(1, .int z), (3, .int 0), (0, .ref o), (2, .int (nI i))] rfl 88 rfl ?_
                refine g_iinc hC dX8_winner_88 3 rfl (v := nI (i + 1)) (by rw [ki_1]; exact nI_a (a := i) (b := 1) (c := (i + 1)) (by omega)) (Nat.le_of_ble_eq_true rfl) [(2, .int (nI (i + 1))), (1, .int z), (3, .int 0), (0, .ref o)] rfl 91 rfl ?_
                refine g_goto hC dX8_winner_91 5 rfl ?_
                refine gJ.sub (M' := M) [3, 1, 0] rfl ?_
                exact ih (i + 1) r z hz (by omega) (fun w9 q9 => by first | (have := hrw w9 q9; omega) | (cases q9; omega) | cases q9) (by show _ = winS f i (winT f i); rw [← hr]; simp only [winS, eq_true c_1, eq_false c_2, eq_false c_4, eq_true c_6, eq_true c_7, eq_false (Int32.not_lt.mpr c_6), if_true, if_false, true_and, and_true, false_and, and_false, true_or, or_true, false_or, or_false, not_true_eq_false, not_false_eq_true, reduceIte, decide_true, decide_false, Bool.false_eq_true]) (by omega) hL_0 hL_1
              · exact absurd c_7 (by decide)
            · refine g_iconst hC dX8_winner_51 ki_1 52 rfl ?_
              refine g_goto hC dX8_winner_52 56 rfl ?_
              refine g_istore_n hC dX8_winner_56 rfl (Nat.le_of_ble_eq_true rfl) [(3, .int 1), (0, .ref o), (1, .int z), (2, .int (nI i))] rfl 57 rfl ?_
              refine g_iload_n hC dX8_winner_57 0 rfl 58 rfl ?_
              refine g_if_eq hC dX8_winner_58 86 rfl 61 rfl (fun c_8 => ?_) (fun c_8 => ?_)
              · exact absurd c_8 (by decide)
              · rcases r with _ | w
                · refine g_lv (lv' := [(3, .int 1), (0, .ref o), (1, .int (-5)), (2, .int (nI i))]) (by rw [hz]; rfl) ?_
                  refine g_iload_n hC dX8_winner_61 2 rfl 62 rfl ?_
                  refine g_bipush hC dX8_winner_62 kb_m5 64 rfl ?_
                  refine g_icmp_eq hC dX8_winner_64 82 rfl 67 rfl (fun c_9 => ?_) (fun c_9 => ?_)
                  · refine g_iload_n hC dX8_winner_82 3 rfl 83 rfl ?_
                    refine g_goto hC dX8_winner_83 87 rfl ?_
                    refine g_istore_n hC dX8_winner_87 rfl (Nat.le_of_ble_eq_true rfl) [(1, .int (nI i)), (3, .int 1), (0, .ref o), (2, .int (nI i))] rfl 88 rfl ?_
                    refine g_iinc hC dX8_winner_88 3 rfl (v := nI (i + 1)) (by rw [ki_1]; exact nI_a (a := i) (b := 1) (c := (i + 1)) (by omega)) (Nat.le_of_ble_eq_true rfl) [(2, .int (nI (i + 1))), (1, .int (nI i)), (3, .int 1), (0, .ref o)] rfl 91 rfl ?_
                    refine g_goto hC dX8_winner_91 5 rfl ?_
                    refine gJ.sub (M' := M) [3, 1, 0] rfl ?_
                    exact ih (i + 1) (some i) (nI i) rfl (by omega) (fun w9 q9 => by first | (have := hrw w9 q9; omega) | (cases q9; omega) | cases q9) (by show _ = winS f i (winT f i); rw [← hr]; simp only [winS, eq_true c_1, eq_false c_2, eq_false c_4, eq_false c_6, eq_false c_8, eq_true c_9, eq_true (Int32.not_le.mp c_6), if_true, if_false, true_and, and_true, false_and, and_false, true_or, or_true, false_or, or_false, not_true_eq_false, not_false_eq_true, reduceIte, decide_true, decide_false, Bool.false_eq_true]) (by omega) hL_0 hL_1
                  · exact absurd c_9 (by decide)
                · refine g_lv (lv' := [(3, .int 1), (0, .ref o), (1, .int (nI w)), (2, .int (nI i))]) (by rw [hz]; rfl) ?_
                  have hw := hrw w rfl
                  refine g_iload_n hC dX8_winner_61 2 rfl 62 rfl ?_
                  refine g_bipush hC dX8_winner_62 kb_m5 64 rfl ?_
                  refine g_icmp_eq hC dX8_winner_64 82 rfl 67 rfl (fun c_10 => ?_) (fun c_10 => ?_)
                  · exact absurd c_10 (nI_nm5 w (by omega))
                  · refine g_aload_n hC dX8_winner_67 1 rfl gRef_r 68 rfl ?_
                    refine g_iload_n hC dX8_winner_68 3 rfl 69 rfl ?_
                    refine g_iconst hC dX8_winner_69 ki_0 70 rfl ?_
                    refine g_calliP (g_V (As := [.int (nI i), .int 0]) (rest := []) hC mvX8_keyOf q3263 (gOf.of hC.K cI7 hL_0) (met_T_keyOf l G M o av asp ak aik atx le am mn aa pl ato f i 0 c_1 (by first | assumption | decide | omega | simp_all) hL_0 hL_1) ⟨rfl, rfl⟩ ⟨(Nat.le_of_ble_eq_true rfl), (Nat.le_of_ble_eq_true rfl)⟩ rfl (Nat.le_of_ble_eq_true rfl) dX8_winner_70 rfl ⟨(Nat.le_of_ble_eq_true rfl), (Nat.le_of_ble_eq_true rfl)⟩) 73 rfl 0 (Nat.le_of_ble_eq_true rfl) ?_
                    refine g_aload_n hC dX8_winner_73 1 rfl gRef_r 74 rfl ?_
                    refine g_iload_n hC dX8_winner_74 2 rfl 75 rfl ?_
                    refine g_iconst hC dX8_winner_75 ki_0 76 rfl ?_
                    refine g_calliP (g_V (As := [.int (nI w), .int 0]) (rest := [.int (T_key f i 0)]) hC mvX8_keyOf q3263 (gOf.of hC.K cI7 hL_0) (met_T_keyOf l G M o av asp ak aik atx le am mn aa pl ato f w 0 (by first | assumption | decide | omega | simp_all) (by first | assumption | decide | omega | simp_all) hL_0 hL_1) ⟨rfl, rfl⟩ ⟨(Nat.le_of_ble_eq_true rfl), (Nat.le_of_ble_eq_true rfl)⟩ rfl (Nat.le_of_ble_eq_true rfl) dX8_winner_76 rfl ⟨(Nat.le_of_ble_eq_true rfl), (Nat.le_of_ble_eq_true rfl)⟩) 79 rfl 0 (Nat.le_of_ble_eq_true rfl) ?_
                    refine g_icmp_ge hC dX8_winner_79 86 rfl 82 rfl (fun c_11 => ?_) (fun c_11 => ?_)
                    · refine g_iload_n hC dX8_winner_86 2 rfl 87 rfl ?_
                      refine g_istore_n hC dX8_winner_87 rfl (Nat.le_of_ble_eq_true rfl) [(1, .int (nI w)), (3, .int 1), (0, .ref o), (2, .int (nI i))] rfl 88 rfl ?_
                      refine g_iinc hC dX8_winner_88 3 rfl (v := nI (i + 1)) (by rw [ki_1]; exact nI_a (a := i) (b := 1) (c := (i + 1)) (by omega)) (Nat.le_of_ble_eq_true rfl) [(2, .int (nI (i + 1))), (1, .int (nI w)), (3, .int 1), (0, .ref o)] rfl 91 rfl ?_
                      refine g_goto hC dX8_winner_91 5 rfl ?_
                      refine gJ.sub (M' := M) [3, 1, 0] rfl ?_
                      exact ih (i + 1) (some w) (nI w) rfl (by omega) (fun w9 q9 => by first | (have := hrw w9 q9; omega) | (cases q9; omega) | cases q9) (by show _ = winS f i (winT f i); rw [← hr]; simp only [winS, eq_true c_1, eq_false c_2, eq_false c_4, eq_false c_6, eq_false c_8, eq_false c_10, eq_true c_11, eq_true (Int32.not_le.mp c_6), eq_false (Int32.not_lt.mpr c_11), if_true, if_false, true_and, and_true, false_and, and_false, true_or, or_true, false_or, or_false, not_true_eq_false, not_false_eq_true, reduceIte, decide_true, decide_false, Bool.false_eq_true]) (by omega) hL_0 hL_1
                    · refine g_iload_n hC dX8_winner_82 3 rfl 83 rfl ?_
                      refine g_goto hC dX8_winner_83 87 rfl ?_
                      refine g_istore_n hC dX8_winner_87 rfl (Nat.le_of_ble_eq_true rfl) [(1, .int (nI i)), (3, .int 1), (0, .ref o), (2, .int (nI i))] rfl 88 rfl ?_
                      refine g_iinc hC dX8_winner_88 3 rfl (v := nI (i + 1)) (by rw [ki_1]; exact nI_a (a := i) (b := 1) (c := (i + 1)) (by omega)) (Nat.le_of_ble_eq_true rfl) [(2, .int (nI (i + 1))), (1, .int (nI i)), (3, .int 1), (0, .ref o)] rfl 91 rfl ?_
                      refine g_goto hC dX8_winner_91 5 rfl ?_
                      refine gJ.sub (M' := M) [3, 1, 0] rfl ?_
                      exact ih (i + 1) (some i) (nI i) rfl (by omega) (fun w9 q9 => by first | (have := hrw w9 q9; omega) | (cases q9; omega) | cases q9) (by show _ = winS f i (winT f i); rw [← hr]; simp only [winS, eq_true c_1, eq_false c_2, eq_false c_4, eq_false c_6, eq_false c_8, eq_false c_10, eq_false c_11, eq_true (Int32.not_le.mp c_6), eq_true (Int32.not_le.mp c_11), if_true, if_false, true_and, and_true, false_and, and_false, true_or, or_true, false_or, or_false, not_true_eq_false, not_false_eq_true, reduceIte, decide_true, decide_false, Bool.false_eq_true]) (by omega) hL_0 hL_1
  refine gJ.sub (M' := M) [2, 1, 0] rfl ?_
  exact loop5 _ 0 none (-5) rfl (by omega) (fun _ q => by cases q) rfl (Nat.lt_succ_self _) hM_0 hM_1
def cpy (g f : Nat → Int32) (d s n : Nat) : Nat → Int32 := fun j => if d ≤ j ∧ j < d + n then f (s + (j - d)) else g j
theorem cpy_s {g f : Nat → Int32} {d s n : Nat} : upd (cpy g f d s n) (d + n) (f (s + n)) = cpy g f d s (n + 1) := by
  funext j
  unfold upd cpy
  by_cases h : j = d + n
  · subst h; rw [if_pos rfl, if_pos (by omega), show d + n - d = n by omega]
  · rw [if_neg h]
    by_cases h2 : d ≤ j ∧ j < d + n
    · rw [if_pos h2, if_pos (by omega)]
    · rw [if_neg h2, if_neg (by omega)]
theorem cpy_0 {g f : Nat → Int32} {d s : Nat} : cpy g f d s 0 = g := by funext j; unfold cpy; rw [if_neg (by omega)]
set_option maxHeartbeats 4000000 in
theorem met_T_save_n (l : Launch) (G : gG) (M : gM) (o : Nat) (av : Nat) (asp : Nat) (ak : Nat) (aik : Nat) (atx : Nat) (le : Int32) (am : Nat) (mn : Int32) (aa : Nat) (pl : Int32) (ato : Nat) (f : Nat → Int32) (x : Int32) (hx : ¬ (0 ≤ x ∧ x ≤ 1)) (hM_0 : M o = some ((1, 0), .inr (7, [.ref av, .ref asp, .ref ak, .ref aik, .ref atx, .int le, .ref am, .int mn, .ref aa, .int pl, .ref ato]))) (hM_1 : M av = some ((1, 1), .inl (gcs G 0, 1310, .inl f))) : Met l yX8_save (ws_ yX8_save cX8_save 3 (some .int)) ({ frames := 1, cells := 0, slots := 0, locals := 22 }) (gPc G [.ref o, .int x] M) (gQi G (fun r9 M9 k9 => r9 = (-2) ∧ M9 = M ∧ k9 = 0)) 0 0 (gA G) := by
  refine gMet [(0, .ref o), (1, .int x)] (by decide) (Nat.le_of_ble_eq_true rfl) rfl ?_
  intro p e s m below meth c hC
  refine g_iload_n hC dX8_save_0 1 rfl 1 rfl ?_
  refine g_iconst hC dX8_save_1 ki_0 2 rfl ?_
  refine g_iconst hC dX8_save_2 ki_1 3 rfl ?_
  refine g_calliP (g_S (As := [.int x, .int 0, .int 1]) (rest := []) hC msX8_in q2984 (met_T_in l G M x 0 1) ⟨rfl, rfl⟩ ⟨(Nat.le_of_ble_eq_true rfl), (Nat.le_of_ble_eq_true rfl)⟩ rfl (Nat.le_of_ble_eq_true rfl) dX8_save_3 rfl ⟨(Nat.le_of_ble_eq_true rfl), (Nat.le_of_ble_eq_true rfl)⟩) 6 rfl 0 (Nat.le_of_ble_eq_true rfl) ?_
  refine g_if_ne hC dX8_save_6 12 rfl 9 rfl (fun c_1 => ?_) (fun c_1 => ?_)
  · replace c_1 := bId_1 c_1
    exact absurd c_1 hx
  · replace c_1 := bId_0 c_1
    refine g_bipush hC dX8_save_9 kb_m2 11 rfl ?_
    exact g_iret (v := -2) hC (fun k9 hk9 => ⟨rfl, rfl, Nat.le_zero.mp hk9⟩) dX8_save_11 (Nat.le_of_ble_eq_true rfl) (Nat.le_of_ble_eq_true rfl)
set_option maxHeartbeats 4000000 in
theorem met_T_restore_n (l : Launch) (G : gG) (M : gM) (o : Nat) (av : Nat) (asp : Nat) (ak : Nat) (aik : Nat) (atx : Nat) (le : Int32) (am : Nat) (mn : Int32) (aa : Nat) (pl : Int32) (ato : Nat) (f : Nat → Int32) (x : Int32) (hx : ¬ (0 ≤ x ∧ x ≤ 1)) (hM_0 : M o = some ((1, 0), .inr (7, [.ref av, .ref asp, .ref ak, .ref aik, .ref atx, .int le, .ref am, .int mn, .ref aa, .int pl, .ref ato]))) (hM_1 : M av = some ((1, 1), .inl (gcs G 0, 1310, .inl f))) : Met l yX8_restore (ws_ yX8_restore cX8_restore 3 (some .int)) ({ frames := 1, cells := 0, slots := 0, locals := 22 }) (gPc G [.ref o, .int x] M) (gQi G (fun r9 M9 k9 => r9 = (-2) ∧ M9 = M ∧ k9 = 0)) 0 0 (gA G) := by
  refine gMet [(0, .ref o), (1, .int x)] (by decide) (Nat.le_of_ble_eq_true rfl) rfl ?_
  intro p e s m below meth c hC
  refine g_iload_n hC dX8_restore_0 1 rfl 1 rfl ?_
  refine g_iconst hC dX8_restore_1 ki_0 2 rfl ?_
  refine g_iconst hC dX8_restore_2 ki_1 3 rfl ?_
  refine g_calliP (g_S (As := [.int x, .int 0, .int 1]) (rest := []) hC msX8_in q2984 (met_T_in l G M x 0 1) ⟨rfl, rfl⟩ ⟨(Nat.le_of_ble_eq_true rfl), (Nat.le_of_ble_eq_true rfl)⟩ rfl (Nat.le_of_ble_eq_true rfl) dX8_restore_3 rfl ⟨(Nat.le_of_ble_eq_true rfl), (Nat.le_of_ble_eq_true rfl)⟩) 6 rfl 0 (Nat.le_of_ble_eq_true rfl) ?_
  refine g_if_ne hC dX8_restore_6 12 rfl 9 rfl (fun c_1 => ?_) (fun c_1 => ?_)
  · replace c_1 := bId_1 c_1
    exact absurd c_1 hx
  · replace c_1 := bId_0 c_1
    refine g_bipush hC dX8_restore_9 kb_m2 11 rfl ?_
    exact g_iret (v := -2) hC (fun k9 hk9 => ⟨rfl, rfl, Nat.le_zero.mp hk9⟩) dX8_restore_11 (Nat.le_of_ble_eq_true rfl) (Nat.le_of_ble_eq_true rfl)
set_option maxHeartbeats 4000000 in
theorem met_T_save (l : Launch) (G : gG) (M : gM) (o : Nat) (av : Nat) (asp : Nat) (ak : Nat) (aik : Nat) (atx : Nat) (le : Int32) (am : Nat) (mn : Int32) (aa : Nat) (pl : Int32) (ato : Nat) (f : Nat → Int32) (g : Nat → Int32) (z : Nat → Int32) (sl : Nat) (hsl : sl ≤ 1) (hM_0 : M o = some ((1, 0), .inr (7, [.ref av, .ref asp, .ref ak, .ref aik, .ref atx, .int le, .ref am, .int mn, .ref aa, .int pl, .ref ato]))) (hM_1 : M av = some ((1, 1), .inl (gcs G 0, 1310, .inl f))) (hM_2 : M ak = some ((1, 3), .inl (gcs G 0, 2620, .inl g))) (hM_3 : M aik = some ((1, 4), .inl (gcs G 2, 2, .inl z))) : Met l yX8_save (ws_ yX8_save cX8_save 3 (some .int)) ({ frames := 1, cells := 0, slots := 0, locals := 22 }) (gPc G [.ref o, .int (nI sl)] M) (gQi G (fun r9 M9 k9 => r9 = (f 1024) ∧ M9 av = some ((1, 1), .inl (gcs G 0, 1310, .inl f)) ∧ M9 ak = some ((1, 3), .inl (gcs G 0, 2620, .inl (cpy g f (1310 * sl) 0 1310))) ∧ M9 aik = some ((1, 4), .inl (gcs G 2, 2, .inl (upd z sl 1))) ∧ gFr (gL [ak, aik]) M M9 ∧ k9 = 0)) 0 0 (gA G) := by
  refine gMet [(0, .ref o), (1, .int (nI sl))] (by decide) (Nat.le_of_ble_eq_true rfl) rfl ?_
  intro p e s m below meth c hC
  refine g_iload_n hC dX8_save_0 1 rfl 1 rfl ?_
  refine g_iconst hC dX8_save_1 ki_0 2 rfl ?_
  refine g_iconst hC dX8_save_2 ki_1 3 rfl ?_
  refine g_calliP (g_S (As := [.int (nI sl), .int 0, .int 1]) (rest := []) hC msX8_in q2984 (met_T_in l G M (nI sl) 0 1) ⟨rfl, rfl⟩ ⟨(Nat.le_of_ble_eq_true rfl), (Nat.le_of_ble_eq_true rfl)⟩ rfl (Nat.le_of_ble_eq_true rfl) dX8_save_3 rfl ⟨(Nat.le_of_ble_eq_true rfl), (Nat.le_of_ble_eq_true rfl)⟩) 6 rfl 0 (Nat.le_of_ble_eq_true rfl) ?_
  refine g_if_ne hC dX8_save_6 12 rfl 9 rfl (fun c_1 => ?_) (fun c_1 => ?_)
  · replace c_1 := bId_1 c_1
    refine g_iconst hC dX8_save_12 ki_0 13 rfl ?_
    refine g_istore_n hC dX8_save_13 rfl (Nat.le_of_ble_eq_true rfl) [(2, .int 0), (0, .ref o), (1, .int (nI sl))] rfl 14 rfl ?_
    have loop14 : ∀ (n9 : Nat) (i : Nat) (F : Nat → Int32) (ML : gM), (hi : i ≤ 1310) → (hF : F = cpy g f (1310 * sl) 0 i) → 1310 - i < n9 → (ML o = some ((1, 0), .inr (7, [.ref av, .ref asp, .ref ak, .ref aik, .ref atx, .int le, .ref am, .int mn, .ref aa, .int pl, .ref ato]))) → (ML av = some ((1, 1), .inl (gcs G 0, 1310, .inl f))) → (ML ak = some ((1, 3), .inl (gcs G 0, 2620, .inl F))) → (ML aik = some ((1, 4), .inl (gcs G 2, 2, .inl z))) → gFr (gL [ak, aik]) M ML → gJ p l e ({ frames := 1, cells := 0, slots := 0, locals := 22 } : Room) s m ([.ref o, .int (nI sl)] : List Value).toArray below meth c G 3 (MQ below (gQi G (fun r9 M9 k9 => r9 = (f 1024) ∧ M9 av = some ((1, 1), .inl (gcs G 0, 1310, .inl f)) ∧ M9 ak = some ((1, 3), .inl (gcs G 0, 2620, .inl (cpy g f (1310 * sl) 0 1310))) ∧ M9 aik = some ((1, 4), .inl (gcs G 2, 2, .inl (upd z sl 1))) ∧ gFr (gL [ak, aik]) M M9 ∧ k9 = 0)) ([.ref o, .int (nI sl)] : List Value).toArray s 0 0 (gA G)) 0 0 ML 14 [(0, .ref o), (1, .int (nI sl)), (2, .int (nI i))] [] := by
      intro n9
      induction n9 with
      | zero => intro i F ML hi hF hmu; exact absurd hmu (Nat.not_lt_zero _)
      | succ n9 ih =>
        intro i F ML hi hF hmu hL_0 hL_1 hL_2 hL_3 hLF
        refine g_iload_n hC dX8_save_14 2 rfl 15 rfl ?_
        refine g_sipush hC dX8_save_15 ks_1310 18 rfl ?_
        refine g_icmp_ge hC dX8_save_18 45 rfl 21 rfl (fun c_2 => ?_) (fun c_2 => ?_)
        · replace c_2 : 1310 ≤ i := nn_le (by omega) (by omega) c_2
          refine g_aload_n hC dX8_save_45 0 rfl gRef_r 46 rfl ?_
          refine g_get (v := .ref aik) hC cI7 hL_0 3 (Nat.le_of_ble_eq_true rfl) q2945 rfl dX8_save_46 49 rfl ?_
          refine g_iload_n hC dX8_save_49 1 rfl 50 rfl ?_
          refine g_iconst hC dX8_save_50 ki_1 51 rfl ?_
          refine g_zast hC hL_3 2 rfl (vp_in_nI (by omega) (by omega)) sl (nI_clamp (by omega)) dX8_save_51 52 rfl (fun M3 hU4 => ?_)
          obtain ⟨F5, eF6⟩ : ∃ z9, z9 = upd z sl (vp_nar .boolean 1) := ⟨_, rfl⟩
          rw [← eF6] at hU4
          refine g_aload_n hC dX8_save_52 0 rfl gRef_r 53 rfl ?_
          refine g_get (v := .ref av) hC cI7 (hU4.n (gne_oa hL_0 hL_3) hL_0) 0 (Nat.le_of_ble_eq_true rfl) q2942 rfl dX8_save_53 56 rfl ?_
          refine g_sipush hC dX8_save_56 ks_1024 59 rfl ?_
          refine g_iald (v := f 1024) hC (hU4.n (gne_t hL_1 hL_3 (by first | assumption | decide | simp | (intro h; simp at h))) hL_1) 0 rfl (vp_in_nI (n := 1024) (by first | decide | omega) (by first | decide | omega)) ((congrArg f (nI_clamp (n := 1024) (by decide))).trans rfl) dX8_save_59 60 rfl ?_
          exact g_iret (v := f 1024) hC (fun k9 hk9 => ⟨rfl, (hU4.n (gne_t hL_1 hL_3 (by first | assumption | decide | simp | (intro h; simp at h))) hL_1), (by rw [(hU4.n (gne_t hL_2 hL_3 (by first | assumption | decide | simp | (intro h; simp at h))) hL_2), hF, show i = 1310 by omega]), (by rw [hU4.1, eF6]; rfl), (hLF.up hU4 hL_3 (by simp)), (by first | exact Nat.le_zero.mp hk9 | omega)⟩) dX8_save_60 (Nat.le_of_ble_eq_true rfl) (Nat.le_of_ble_eq_true rfl)
        · replace c_2 : i < 1310 := nn_nle (by omega) (by omega) c_2
          refine g_aload_n hC dX8_save_21 0 rfl gRef_r 22 rfl ?_
          refine g_get (v := .ref ak) hC cI7 hL_0 2 (Nat.le_of_ble_eq_true rfl) q2944 rfl dX8_save_22 25 rfl ?_
          refine g_sipush hC dX8_save_25 ks_1310 28 rfl ?_
          refine g_iload_n hC dX8_save_28 1 rfl 29 rfl ?_
          refine g_imul hC dX8_save_29 30 rfl ?_
          refine g_topi (y := nI (1310 * sl)) (nI_m (a := 1310) (b := sl) (c := (1310 * sl)) (by omega)) ?_
          refine g_iload_n hC dX8_save_30 2 rfl 31 rfl ?_
          refine g_iadd hC dX8_save_31 32 rfl ?_
          refine g_topi (y := nI (1310 * sl + i)) (nI_a (a := (1310 * sl)) (b := i) (c := (1310 * sl + i)) (by omega)) ?_
          refine g_aload_n hC dX8_save_32 0 rfl gRef_r 33 rfl ?_
          refine g_get (v := .ref av) hC cI7 hL_0 0 (Nat.le_of_ble_eq_true rfl) q2942 rfl dX8_save_33 36 rfl ?_
          refine g_iload_n hC dX8_save_36 2 rfl 37 rfl ?_
          refine g_iald (v := f i) hC hL_1 0 rfl (vp_in_nI (by omega) (by omega)) ((congrArg f (nI_clamp (by omega))).trans rfl) dX8_save_37 38 rfl ?_
          refine g_iast hC hL_2 0 rfl (vp_in_nI (by omega) (by omega)) (1310 * sl + i) (nI_clamp (by omega)) dX8_save_38 39 rfl (fun M7 hU8 => ?_)
          obtain ⟨F9, eF10⟩ : ∃ z9, z9 = upd F (1310 * sl + i) (f i) := ⟨_, rfl⟩
          rw [← eF10] at hU8
          refine g_iinc hC dX8_save_39 2 rfl (v := nI (i + 1)) (by rw [ki_1]; exact nI_a (a := i) (b := 1) (c := (i + 1)) (by omega)) (Nat.le_of_ble_eq_true rfl) [(2, .int (nI (i + 1))), (0, .ref o), (1, .int (nI sl))] rfl 42 rfl ?_
          refine g_goto hC dX8_save_42 14 rfl ?_
          refine gJ.sub (M' := M7) [1, 2, 0] rfl ?_
          exact ih (i + 1) F9 M7 (by omega) (by rw [eF10, hF, show 1310 * sl + i = 1310 * sl + i from rfl, ← cpy_s, Nat.zero_add]) (by omega) (hU8.n (gne_oa hL_0 hL_2) hL_0) (hU8.n (gne_t hL_1 hL_2 (by first | assumption | decide | simp | (intro h; simp at h))) hL_1) hU8.1 (hU8.n (gne_t hL_3 hL_2 (by first | assumption | decide | simp | (intro h; simp at h))) hL_3) (hLF.up hU8 hL_2 (by simp))
    refine gJ.sub (M' := M) [1, 2, 0] rfl ?_
    exact loop14 _ 0 g M (by omega) cpy_0.symm (Nat.lt_succ_self _) hM_0 hM_1 hM_2 hM_3 gFr.refl
  · replace c_1 := bId_0 c_1
    exact absurd (show 0 ≤ nI sl ∧ nI sl ≤ 1 from ⟨nI_pos' (by omega), nI_le (b := 1) hsl (by omega)⟩) c_1
set_option maxHeartbeats 4000000 in
theorem met_T_restore_0 (l : Launch) (G : gG) (M : gM) (o : Nat) (av : Nat) (asp : Nat) (ak : Nat) (aik : Nat) (atx : Nat) (le : Int32) (am : Nat) (mn : Int32) (aa : Nat) (pl : Int32) (ato : Nat) (f : Nat → Int32) (g : Nat → Int32) (z : Nat → Int32) (sl : Nat) (hsl : sl ≤ 1) (hz0 : z sl = 0) (hM_0 : M o = some ((1, 0), .inr (7, [.ref av, .ref asp, .ref ak, .ref aik, .ref atx, .int le, .ref am, .int mn, .ref aa, .int pl, .ref ato]))) (hM_1 : M av = some ((1, 1), .inl (gcs G 0, 1310, .inl f))) (hM_2 : M ak = some ((1, 3), .inl (gcs G 0, 2620, .inl g))) (hM_3 : M aik = some ((1, 4), .inl (gcs G 2, 2, .inl z))) : Met l yX8_restore (ws_ yX8_restore cX8_restore 3 (some .int)) ({ frames := 1, cells := 0, slots := 0, locals := 22 }) (gPc G [.ref o, .int (nI sl)] M) (gQi G (fun r9 M9 k9 => r9 = (-5) ∧ M9 = M ∧ k9 = 0)) 0 0 (gA G) := by
  refine gMet [(0, .ref o), (1, .int (nI sl))] (by decide) (Nat.le_of_ble_eq_true rfl) rfl ?_
  intro p e s m below meth c hC
  refine g_iload_n hC dX8_restore_0 1 rfl 1 rfl ?_
  refine g_iconst hC dX8_restore_1 ki_0 2 rfl ?_
  refine g_iconst hC dX8_restore_2 ki_1 3 rfl ?_
  refine g_calliP (g_S (As := [.int (nI sl), .int 0, .int 1]) (rest := []) hC msX8_in q2984 (met_T_in l G M (nI sl) 0 1) ⟨rfl, rfl⟩ ⟨(Nat.le_of_ble_eq_true rfl), (Nat.le_of_ble_eq_true rfl)⟩ rfl (Nat.le_of_ble_eq_true rfl) dX8_restore_3 rfl ⟨(Nat.le_of_ble_eq_true rfl), (Nat.le_of_ble_eq_true rfl)⟩) 6 rfl 0 (Nat.le_of_ble_eq_true rfl) ?_
  refine g_if_ne hC dX8_restore_6 12 rfl 9 rfl (fun c_1 => ?_) (fun c_1 => ?_)
  · replace c_1 := bId_1 c_1
    refine g_aload_n hC dX8_restore_12 0 rfl gRef_r 13 rfl ?_
    refine g_get (v := .ref aik) hC cI7 hM_0 3 (Nat.le_of_ble_eq_true rfl) q2945 rfl dX8_restore_13 16 rfl ?_
    refine g_iload_n hC dX8_restore_16 1 rfl 17 rfl ?_
    refine g_zald (v := 0) hC hM_3 2 rfl (vp_in_nI (by omega) (by omega)) ((congrArg z (nI_clamp (by omega))).trans hz0) dX8_restore_17 18 rfl ?_
    refine g_if_ne hC dX8_restore_18 24 rfl 21 rfl (fun c_2 => ?_) (fun c_2 => ?_)
    · exact absurd c_2 (by decide)
    · refine g_bipush hC dX8_restore_21 kb_m5 23 rfl ?_
      exact g_iret (v := -5) hC (fun k9 hk9 => ⟨rfl, rfl, Nat.le_zero.mp hk9⟩) dX8_restore_23 (Nat.le_of_ble_eq_true rfl) (Nat.le_of_ble_eq_true rfl)
  · replace c_1 := bId_0 c_1
    exact absurd (show 0 ≤ nI sl ∧ nI sl ≤ 1 from ⟨nI_pos' (by omega), nI_le (b := 1) hsl (by omega)⟩) c_1
set_option maxHeartbeats 4000000 in
theorem met_T_restore (l : Launch) (G : gG) (M : gM) (o : Nat) (av : Nat) (asp : Nat) (ak : Nat) (aik : Nat) (atx : Nat) (le : Int32) (am : Nat) (mn : Int32) (aa : Nat) (pl : Int32) (ato : Nat) (f : Nat → Int32) (g : Nat → Int32) (z : Nat → Int32) (sl : Nat) (hsl : sl ≤ 1) (hz1 : z sl = 1) (hM_0 : M o = some ((1, 0), .inr (7, [.ref av, .ref asp, .ref ak, .ref aik, .ref atx, .int le, .ref am, .int mn, .ref aa, .int pl, .ref ato]))) (hM_1 : M av = some ((1, 1), .inl (gcs G 0, 1310, .inl f))) (hM_2 : M ak = some ((1, 3), .inl (gcs G 0, 2620, .inl g))) (hM_3 : M aik = some ((1, 4), .inl (gcs G 2, 2, .inl z))) : Met l yX8_restore (ws_ yX8_restore cX8_restore 3 (some .int)) ({ frames := 1, cells := 0, slots := 0, locals := 22 }) (gPc G [.ref o, .int (nI sl)] M) (gQi G (fun r9 M9 k9 => r9 = (cpy f g 0 (1310 * sl) 1310 1024) ∧ M9 av = some ((1, 1), .inl (gcs G 0, 1310, .inl (cpy f g 0 (1310 * sl) 1310))) ∧ gFr (gL [av]) M M9 ∧ k9 = 0)) 0 0 (gA G) := by
  refine gMet [(0, .ref o), (1, .int (nI sl))] (by decide) (Nat.le_of_ble_eq_true rfl) rfl ?_
  intro p e s m below meth c hC
  refine g_iload_n hC dX8_restore_0 1 rfl 1 rfl ?_
  refine g_iconst hC dX8_restore_1 ki_0 2 rfl ?_
  refine g_iconst hC dX8_restore_2 ki_1 3 rfl ?_
  refine g_calliP (g_S (As := [.int (nI sl), .int 0, .int 1]) (rest := []) hC msX8_in q2984 (met_T_in l G M (nI sl) 0 1) ⟨rfl, rfl⟩ ⟨(Nat.le_of_ble_eq_true rfl), (Nat.le_of_ble_eq_true rfl)⟩ rfl (Nat.le_of_ble_eq_true rfl) dX8_restore_3 rfl ⟨(Nat.le_of_ble_eq_true rfl), (Nat.le_of_ble_eq_true rfl)⟩) 6 rfl 0 (Nat.le_of_ble_eq_true rfl) ?_
  refine g_if_ne hC dX8_restore_6 12 rfl 9 rfl (fun c_1 => ?_) (fun c_1 => ?_)
  · replace c_1 := bId_1 c_1
    refine g_aload_n hC dX8_restore_12 0 rfl gRef_r 13 rfl ?_
    refine g_get (v := .ref aik) hC cI7 hM_0 3 (Nat.le_of_ble_eq_true rfl) q2945 rfl dX8_restore_13 16 rfl ?_
    refine g_iload_n hC dX8_restore_16 1 rfl 17 rfl ?_
    refine g_zald (v := 1) hC hM_3 2 rfl (vp_in_nI (by omega) (by omega)) ((congrArg z (nI_clamp (by omega))).trans hz1) dX8_restore_17 18 rfl ?_
    refine g_if_ne hC dX8_restore_18 24 rfl 21 rfl (fun c_2 => ?_) (fun c_2 => ?_)
    · refine g_iconst hC dX8_restore_24 ki_0 25 rfl ?_
      refine g_istore_n hC dX8_restore_25 rfl (Nat.le_of_ble_eq_true rfl) [(2, .int 0), (0, .ref o), (1, .int (nI sl))] rfl 26 rfl ?_
      have loop26 : ∀ (n9 : Nat) (i : Nat) (F : Nat → Int32) (ML : gM), (hi : i ≤ 1310) → (hF : F = cpy f g 0 (1310 * sl) i) → 1310 - i < n9 → (ML o = some ((1, 0), .inr (7, [.ref av, .ref asp, .ref ak, .ref aik, .ref atx, .int le, .ref am, .int mn, .ref aa, .int pl, .ref ato]))) → (ML av = some ((1, 1), .inl (gcs G 0, 1310, .inl F))) → (ML ak = some ((1, 3), .inl (gcs G 0, 2620, .inl g))) → (ML aik = some ((1, 4), .inl (gcs G 2, 2, .inl z))) → gFr (gL [av]) M ML → gJ p l e ({ frames := 1, cells := 0, slots := 0, locals := 22 } : Room) s m ([.ref o, .int (nI sl)] : List Value).toArray below meth c G 3 (MQ below (gQi G (fun r9 M9 k9 => r9 = (cpy f g 0 (1310 * sl) 1310 1024) ∧ M9 av = some ((1, 1), .inl (gcs G 0, 1310, .inl (cpy f g 0 (1310 * sl) 1310))) ∧ gFr (gL [av]) M M9 ∧ k9 = 0)) ([.ref o, .int (nI sl)] : List Value).toArray s 0 0 (gA G)) 0 0 ML 26 [(0, .ref o), (1, .int (nI sl)), (2, .int (nI i))] [] := by
        intro n9
        induction n9 with
        | zero => intro i F ML hi hF hmu; exact absurd hmu (Nat.not_lt_zero _)
        | succ n9 ih =>
          intro i F ML hi hF hmu hL_0 hL_1 hL_2 hL_3 hLF
          refine g_iload_n hC dX8_restore_26 2 rfl 27 rfl ?_
          refine g_sipush hC dX8_restore_27 ks_1310 30 rfl ?_
          refine g_icmp_ge hC dX8_restore_30 57 rfl 33 rfl (fun c_3 => ?_) (fun c_3 => ?_)
          · replace c_3 : 1310 ≤ i := nn_le (by omega) (by omega) c_3
            refine g_aload_n hC dX8_restore_57 0 rfl gRef_r 58 rfl ?_
            refine g_get (v := .ref av) hC cI7 hL_0 0 (Nat.le_of_ble_eq_true rfl) q2942 rfl dX8_restore_58 61 rfl ?_
            refine g_sipush hC dX8_restore_61 ks_1024 64 rfl ?_
            refine g_iald (v := F 1024) hC hL_1 0 rfl (vp_in_nI (n := 1024) (by first | decide | omega) (by first | decide | omega)) ((congrArg F (nI_clamp (n := 1024) (by decide))).trans rfl) dX8_restore_64 65 rfl ?_
            exact g_iret (v := F 1024) hC (fun k9 hk9 => ⟨(by rw [hF, show i = 1310 by omega]), (by rw [hL_1, hF, show i = 1310 by omega]), hLF, (by first | exact Nat.le_zero.mp hk9 | omega)⟩) dX8_restore_65 (Nat.le_of_ble_eq_true rfl) (Nat.le_of_ble_eq_true rfl)
          · replace c_3 : i < 1310 := nn_nle (by omega) (by omega) c_3
            refine g_aload_n hC dX8_restore_33 0 rfl gRef_r 34 rfl ?_
            refine g_get (v := .ref av) hC cI7 hL_0 0 (Nat.le_of_ble_eq_true rfl) q2942 rfl dX8_restore_34 37 rfl ?_
            refine g_iload_n hC dX8_restore_37 2 rfl 38 rfl ?_
            refine g_aload_n hC dX8_restore_38 0 rfl gRef_r 39 rfl ?_
            refine g_get (v := .ref ak) hC cI7 hL_0 2 (Nat.le_of_ble_eq_true rfl) q2944 rfl dX8_restore_39 42 rfl ?_
            refine g_sipush hC dX8_restore_42 ks_1310 45 rfl ?_
            refine g_iload_n hC dX8_restore_45 1 rfl 46 rfl ?_
            refine g_imul hC dX8_restore_46 47 rfl ?_
            refine g_topi (y := nI (1310 * sl)) (nI_m (a := 1310) (b := sl) (c := (1310 * sl)) (by omega)) ?_
            refine g_iload_n hC dX8_restore_47 2 rfl 48 rfl ?_
            refine g_iadd hC dX8_restore_48 49 rfl ?_
            refine g_topi (y := nI (1310 * sl + i)) (nI_a (a := (1310 * sl)) (b := i) (c := (1310 * sl + i)) (by omega)) ?_
            refine g_iald (v := g (1310 * sl + i)) hC hL_2 0 rfl (vp_in_nI (by omega) (by omega)) ((congrArg g (nI_clamp (by omega))).trans rfl) dX8_restore_49 50 rfl ?_
            refine g_iast hC hL_1 0 rfl (vp_in_nI (by omega) (by omega)) i (nI_clamp (by omega)) dX8_restore_50 51 rfl (fun M4 hU5 => ?_)
            obtain ⟨F6, eF7⟩ : ∃ z9, z9 = upd F i (g (1310 * sl + i)) := ⟨_, rfl⟩
            rw [← eF7] at hU5
            refine g_iinc hC dX8_restore_51 2 rfl (v := nI (i + 1)) (by rw [ki_1]; exact nI_a (a := i) (b := 1) (c := (i + 1)) (by omega)) (Nat.le_of_ble_eq_true rfl) [(2, .int (nI (i + 1))), (0, .ref o), (1, .int (nI sl))] rfl 54 rfl ?_
            refine g_goto hC dX8_restore_54 26 rfl ?_
            refine gJ.sub (M' := M4) [1, 2, 0] rfl ?_
            exact ih (i + 1) F6 M4 (by omega) (by rw [eF7, hF, ← cpy_s, Nat.zero_add]) (by omega) (hU5.n (gne_oa hL_0 hL_1) hL_0) hU5.1 (hU5.n (gne_t hL_2 hL_1 (by first | assumption | decide | simp | (intro h; simp at h))) hL_2) (hU5.n (gne_t hL_3 hL_1 (by first | assumption | decide | simp | (intro h; simp at h))) hL_3) (hLF.up hU5 hL_1 (by simp))
      refine gJ.sub (M' := M) [1, 2, 0] rfl ?_
      exact loop26 _ 0 f M (by omega) cpy_0.symm (Nat.lt_succ_self _) hM_0 hM_1 hM_2 hM_3 gFr.refl
    · exact absurd c_2 (by decide)
  · replace c_1 := bId_0 c_1
    exact absurd (show 0 ≤ nI sl ∧ nI sl ≤ 1 from ⟨nI_pos' (by omega), nI_le (b := 1) hsl (by omega)⟩) c_1
def busT (k : Nat) (x : Int32) : Nat → Nat → (Nat → Int32) → (Nat → Int32) × Nat
  | 0, n, F => (F, n)
  | j + 1, n, F => if F (256 * k + 14) = x then busT k x j (n + 1) (T_bit F) else (F, n)
