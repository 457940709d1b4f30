/-! the bus: isSettled, attached, run, settle, bitsUntilSent -/
set_option maxRecDepth 100000
theorem isNd.wc {M : gM} {G : gG} {ta k of nd : Nat} {x : NS} (h : isNd M G ta k of nd x) : ∃ sa wa rc an er wq, ∃ wm : Int32, M nd = some ((ta, 16 * k), .inr (2, ndL G of x.ph x.cu sa wa rc an er x.g)) ∧ M wa = some ((ta, 16 * k + 2), .inr (20, [.ref wq, .int (nI x.W.length), .null, .int wm])) ∧ M wq = some ((ta, 16 * k + 3), .inl (gcs G 3, 4, .inr (.inr (.inr (.inr (pqA x.W)))))) ∧ frs M x.W ∧ x.W.length ≤ 4 := by
  obtain ⟨sa, wa, rc, an, er, wq, wm, rq, rh, h0, h1, h2, h3, h4, h5, h8, f1, f2, tm, aw, i1, i2, i3⟩ := h
  exact ⟨sa, wa, rc, an, er, wq, wm, h0, h2, h3, f1, i1⟩
def nSt (x : NS) : Bool := decide (x.ph = 0 ∨ x.ph = 1 ∨ (x.ph = 3 ∧ x.W.length = 0))
theorem nSt_t {x : NS} (h : x.ph = 0 ∨ x.ph = 1 ∨ (x.ph = 3 ∧ x.W.length = 0)) : nSt x = true := decide_eq_true h
theorem nSt_f {x : NS} (h : ¬ (x.ph = 0 ∨ x.ph = 1 ∨ (x.ph = 3 ∧ x.W.length = 0))) : nSt x = false := decide_eq_false h
set_option maxHeartbeats 4000000 in
theorem met_B_isSettled0 (l : Launch) (G : gG) (M : gM) (of : Nat) (ta : Nat) (bn : Nat) (bd : Nat) (bh : Nat) (tn : Nat) (pl : Int32) (ol : Int32) (rv : Int32) (n0 : Nat) (n1 : Nat) (n2 : Nat) (n3 : Nat) (x0 : NS) (x1 : NS) (x2 : NS) (x3 : NS) (D : List dsE) (mc : Int32) (hs : Nat → Int32) (hta : 2 ≤ ta ∧ ta < 9) (hph_0 : x0.ph < 10) (hph_1 : x1.ph < 10) (hph_2 : x2.ph < 10) (hph_3 : x3.ph < 10) (hM_0 : M of = some ((ta, 100), .inr (1, [.ref bn, .ref bd, .ref bh, .int (nI tn), .int pl, .int ol, .int rv]))) (hM_1 : M bn = some ((ta, 101), .inl (gcs G 4, 4, .inr (.inr (.inr (.inr (va_up (va_up (va_up (va_up (fun _ => none) 0 (some n0)) 1 (some n1)) 2 (some n2)) 3 (some n3)))))))) (hM_2 : M bd = some ((ta, 102), .inr (17, [.int mc, .int (nI D.length), va_rf (llN D none), va_rf (llZ none D)]))) (hM_3 : M bh = some ((ta, 104), .inl (gcs G 1, 256, .inl hs))) (hP_0 : lls M (ta, 103) D) (hP_1 : dss M D) (hP_2 : isNd M G ta 0 of n0 x0) (hP_3 : isNd M G ta 1 of n1 x1) (hP_4 : isNd M G ta 2 of n2 x2) (hP_5 : isNd M G ta 3 of n3 x3) : Met l yX1_isSettled (ws_ yX1_isSettled cX1_isSettled 6 (some .boolean)) ({ frames := 2, cells := 0, slots := 0, locals := 40 }) (gPc G [.ref of] M) (gQi G (fun r9 M9 k9 => r9 = (bI ((((true && nSt x0) && nSt x1) && nSt x2) && nSt x3)) ∧ M9 = M ∧ k9 = 0)) 0 0 (gA G) := by
  refine gMet [(0, .ref of)] (by decide) (Nat.le_of_ble_eq_true rfl) rfl ?_
  intro p e s m below meth c hC
  refine g_iconst hC dX1_isSettled_0 ki_1 1 rfl ?_
  refine g_topi (y := bI true) rfl ?_
  refine g_istore_n hC dX1_isSettled_1 rfl (Nat.le_of_ble_eq_true rfl) [(1, .int (bI true)), (0, .ref of)] rfl 2 rfl ?_
  refine g_aload_n hC dX1_isSettled_2 1 rfl gRef_r 3 rfl ?_
  refine g_get (v := .ref bn) hC cI1 hM_0 0 (Nat.le_of_ble_eq_true rfl) q469 rfl dX1_isSettled_3 6 rfl ?_
  refine g_astore_n hC dX1_isSettled_6 rfl gRef_r (Nat.le_of_ble_eq_true rfl) [(2, .ref bn), (1, .int (bI true)), (0, .ref of)] rfl 7 rfl ?_
  refine g_aload_n hC dX1_isSettled_7 0 rfl gRef_r 8 rfl ?_
  refine g_alen (v := nI 4) hC hM_1 4 rfl rfl dX1_isSettled_8 9 rfl ?_
  refine g_istore_n hC dX1_isSettled_9 rfl (Nat.le_of_ble_eq_true rfl) [(3, .int (nI 4)), (2, .ref bn), (1, .int (bI true)), (0, .ref of)] rfl 10 rfl ?_
  refine g_iconst hC dX1_isSettled_10 ki_0 11 rfl ?_
  refine g_istore hC dX1_isSettled_11 (Nat.le_of_ble_eq_true rfl) [(4, .int 0), (3, .int (nI 4)), (2, .ref bn), (1, .int (bI true)), (0, .ref of)] rfl 13 rfl ?_
  refine g_iload hC dX1_isSettled_13 0 rfl 15 rfl ?_
  refine g_iload_n hC dX1_isSettled_15 1 rfl 16 rfl ?_
  refine g_icmp_ge hC dX1_isSettled_16 71 rfl 19 rfl (fun c_1 => ?_) (fun c_1 => ?_)
  · exact absurd (show 4 ≤ 0 from nn_le (by omega) (by omega) c_1) (by omega)
  · replace c_1 : 0 < 4 := nn_nle (by omega) (by omega) c_1
    refine g_aload_n hC dX1_isSettled_19 2 rfl gRef_r 20 rfl ?_
    refine g_iload hC dX1_isSettled_20 0 rfl 22 rfl ?_
    refine g_aldq (r := some n0) hC hM_1 4 rfl (vp_in_nI (n := 0) (by first | decide | omega) (by first | decide | omega)) ((congrArg (va_up (va_up (va_up (va_up (fun _ => none) 0 (some n0)) 1 (some n1)) 2 (some n2)) 3 (some n3)) (nI_clamp (n := 0) (by decide))).trans rfl) dX1_isSettled_22 23 rfl ?_
    refine g_astore hC dX1_isSettled_23 gRef_r (Nat.le_of_ble_eq_true rfl) [(5, .ref n0), (4, .int 0), (3, .int (nI 4)), (2, .ref bn), (1, .int (bI true)), (0, .ref of)] rfl 25 rfl ?_
    obtain ⟨sa_z2, wa_z2, rc_z2, an_z2, er_z2, wq_z2, wm_z2, hO_z2, hW_z2, hA_z2, hf_z2, hl_z2⟩ := isNd.wc hP_2
    have join64 : ∀ (sb0 : Bool), (hsb0 : sb0 = (true && nSt x0)) → (M of = some ((ta, 100), .inr (1, [.ref bn, .ref bd, .ref bh, .int (nI tn), .int pl, .int ol, .int rv]))) → (M bn = some ((ta, 101), .inl (gcs G 4, 4, .inr (.inr (.inr (.inr (va_up (va_up (va_up (va_up (fun _ => none) 0 (some n0)) 1 (some n1)) 2 (some n2)) 3 (some n3)))))))) → (M bd = some ((ta, 102), .inr (17, [.int mc, .int (nI D.length), va_rf (llN D none), va_rf (llZ none D)]))) → (M bh = some ((ta, 104), .inl (gcs G 1, 256, .inl hs))) → (lls M (ta, 103) D) → (dss M D) → (isNd M G ta 0 of n0 x0) → (isNd M G ta 1 of n1 x1) → (isNd M G ta 2 of n2 x2) → (isNd M G ta 3 of n3 x3) → gJ p l e ({ frames := 2, cells := 0, slots := 0, locals := 40 } : Room) s m ([.ref of] : List Value).toArray below meth c G 6 (MQ below (gQi G (fun r9 M9 k9 => r9 = (bI ((((true && nSt x0) && nSt x1) && nSt x2) && nSt x3)) ∧ M9 = M ∧ k9 = 0)) ([.ref of] : List Value).toArray s 0 0 (gA G)) 0 0 M 64 [(5, .ref n0), (4, .int 0), (3, .int (nI 4)), (2, .ref bn), (1, .int (bI true)), (0, .ref of)] [.int (bI sb0)] := by
      intro sb0 hsb0 hL_0 hL_1 hL_2 hL_3 hLp_0 hLp_1 hLp_2 hLp_3 hLp_4 hLp_5
      refine g_istore_n hC dX1_isSettled_64 rfl (Nat.le_of_ble_eq_true rfl) [(1, .int (bI sb0)), (5, .ref n0), (4, .int 0), (3, .int (nI 4)), (2, .ref bn), (0, .ref of)] rfl 65 rfl ?_
      refine g_iinc hC dX1_isSettled_65 2 rfl (v := 1) (by rw [ki_1]; exact nI_a (a := 0) (b := 1) (c := 1) (by omega)) (Nat.le_of_ble_eq_true rfl) [(4, .int 1), (1, .int (bI sb0)), (5, .ref n0), (3, .int (nI 4)), (2, .ref bn), (0, .ref of)] rfl 68 rfl ?_
      refine g_goto hC dX1_isSettled_68 13 rfl ?_
      refine g_iload hC dX1_isSettled_13 0 rfl 15 rfl ?_
      refine g_iload_n hC dX1_isSettled_15 3 rfl 16 rfl ?_
      refine g_icmp_ge hC dX1_isSettled_16 71 rfl 19 rfl (fun c_3 => ?_) (fun c_3 => ?_)
      · exact absurd (show 4 ≤ 1 from nn_le (by omega) (by omega) c_3) (by omega)
      · replace c_3 : 1 < 4 := nn_nle (by omega) (by omega) c_3
        refine g_aload_n hC dX1_isSettled_19 4 rfl gRef_r 20 rfl ?_
        refine g_iload hC dX1_isSettled_20 0 rfl 22 rfl ?_
        refine g_aldq (r := some n1) hC hL_1 4 rfl (vp_in_nI (n := 1) (by first | decide | omega) (by first | decide | omega)) ((congrArg (va_up (va_up (va_up (va_up (fun _ => none) 0 (some n0)) 1 (some n1)) 2 (some n2)) 3 (some n3)) (nI_clamp (n := 1) (by decide))).trans rfl) dX1_isSettled_22 23 rfl ?_
        refine g_astore hC dX1_isSettled_23 gRef_r (Nat.le_of_ble_eq_true rfl) [(5, .ref n1), (4, .int 1), (1, .int (bI sb0)), (3, .int (nI 4)), (2, .ref bn), (0, .ref of)] rfl 25 rfl ?_
        obtain ⟨sa_z4, wa_z4, rc_z4, an_z4, er_z4, wq_z4, wm_z4, hO_z4, hW_z4, hA_z4, hf_z4, hl_z4⟩ := isNd.wc hLp_3
        have join64 : ∀ (sb1 : Bool), (hsb1 : sb1 = ((true && nSt x0) && nSt x1)) → (M of = some ((ta, 100), .inr (1, [.ref bn, .ref bd, .ref bh, .int (nI tn), .int pl, .int ol, .int rv]))) → (M bn = some ((ta, 101), .inl (gcs G 4, 4, .inr (.inr (.inr (.inr (va_up (va_up (va_up (va_up (fun _ => none) 0 (some n0)) 1 (some n1)) 2 (some n2)) 3 (some n3)))))))) → (M bd = some ((ta, 102), .inr (17, [.int mc, .int (nI D.length), va_rf (llN D none), va_rf (llZ none D)]))) → (M bh = some ((ta, 104), .inl (gcs G 1, 256, .inl hs))) → (lls M (ta, 103) D) → (dss M D) → (isNd M G ta 0 of n0 x0) → (isNd M G ta 1 of n1 x1) → (isNd M G ta 2 of n2 x2) → (isNd M G ta 3 of n3 x3) → gJ p l e ({ frames := 2, cells := 0, slots := 0, locals := 40 } : Room) s m ([.ref of] : List Value).toArray below meth c G 6 (MQ below (gQi G (fun r9 M9 k9 => r9 = (bI ((((true && nSt x0) && nSt x1) && nSt x2) && nSt x3)) ∧ M9 = M ∧ k9 = 0)) ([.ref of] : List Value).toArray s 0 0 (gA G)) 0 0 M 64 [(5, .ref n1), (4, .int 1), (1, .int (bI sb0)), (3, .int (nI 4)), (2, .ref bn), (0, .ref of)] [.int (bI sb1)] := by
          intro sb1 hsb1 hL_0 hL_1 hL_2 hL_3 hLp_0 hLp_1 hLp_2 hLp_3 hLp_4 hLp_5
          refine g_istore_n hC dX1_isSettled_64 rfl (Nat.le_of_ble_eq_true rfl) [(1, .int (bI sb1)), (5, .ref n1), (4, .int 1), (3, .int (nI 4)), (2, .ref bn), (0, .ref of)] rfl 65 rfl ?_
          refine g_iinc hC dX1_isSettled_65 2 rfl (v := 2) (by rw [ki_1]; exact nI_a (a := 1) (b := 1) (c := 2) (by omega)) (Nat.le_of_ble_eq_true rfl) [(4, .int 2), (1, .int (bI sb1)), (5, .ref n1), (3, .int (nI 4)), (2, .ref bn), (0, .ref of)] rfl 68 rfl ?_
          refine g_goto hC dX1_isSettled_68 13 rfl ?_
          refine g_iload hC dX1_isSettled_13 0 rfl 15 rfl ?_
          refine g_iload_n hC dX1_isSettled_15 3 rfl 16 rfl ?_
          refine g_icmp_ge hC dX1_isSettled_16 71 rfl 19 rfl (fun c_5 => ?_) (fun c_5 => ?_)
          · exact absurd (show 4 ≤ 2 from nn_le (by omega) (by omega) c_5) (by omega)
          · replace c_5 : 2 < 4 := nn_nle (by omega) (by omega) c_5
            refine g_aload_n hC dX1_isSettled_19 4 rfl gRef_r 20 rfl ?_
            refine g_iload hC dX1_isSettled_20 0 rfl 22 rfl ?_
            refine g_aldq (r := some n2) hC hL_1 4 rfl (vp_in_nI (n := 2) (by first | decide | omega) (by first | decide | omega)) ((congrArg (va_up (va_up (va_up (va_up (fun _ => none) 0 (some n0)) 1 (some n1)) 2 (some n2)) 3 (some n3)) (nI_clamp (n := 2) (by decide))).trans rfl) dX1_isSettled_22 23 rfl ?_
            refine g_astore hC dX1_isSettled_23 gRef_r (Nat.le_of_ble_eq_true rfl) [(5, .ref n2), (4, .int 2), (1, .int (bI sb1)), (3, .int (nI 4)), (2, .ref bn), (0, .ref of)] rfl 25 rfl ?_
            obtain ⟨sa_z6, wa_z6, rc_z6, an_z6, er_z6, wq_z6, wm_z6, hO_z6, hW_z6, hA_z6, hf_z6, hl_z6⟩ := isNd.wc hLp_4
            have join64 : ∀ (sb2 : Bool), (hsb2 : sb2 = (((true && nSt x0) && nSt x1) && nSt x2)) → (M of = some ((ta, 100), .inr (1, [.ref bn, .ref bd, .ref bh, .int (nI tn), .int pl, .int ol, .int rv]))) → (M bn = some ((ta, 101), .inl (gcs G 4, 4, .inr (.inr (.inr (.inr (va_up (va_up (va_up (va_up (fun _ => none) 0 (some n0)) 1 (some n1)) 2 (some n2)) 3 (some n3)))))))) → (M bd = some ((ta, 102), .inr (17, [.int mc, .int (nI D.length), va_rf (llN D none), va_rf (llZ none D)]))) → (M bh = some ((ta, 104), .inl (gcs G 1, 256, .inl hs))) → (lls M (ta, 103) D) → (dss M D) → (isNd M G ta 0 of n0 x0) → (isNd M G ta 1 of n1 x1) → (isNd M G ta 2 of n2 x2) → (isNd M G ta 3 of n3 x3) → gJ p l e ({ frames := 2, cells := 0, slots := 0, locals := 40 } : Room) s m ([.ref of] : List Value).toArray below meth c G 6 (MQ below (gQi G (fun r9 M9 k9 => r9 = (bI ((((true && nSt x0) && nSt x1) && nSt x2) && nSt x3)) ∧ M9 = M ∧ k9 = 0)) ([.ref of] : List Value).toArray s 0 0 (gA G)) 0 0 M 64 [(5, .ref n2), (4, .int 2), (1, .int (bI sb1)), (3, .int (nI 4)), (2, .ref bn), (0, .ref of)] [.int (bI sb2)] := by
              intro sb2 hsb2 hL_0 hL_1 hL_2 hL_3 hLp_0 hLp_1 hLp_2 hLp_3 hLp_4 hLp_5
              refine g_istore_n hC dX1_isSettled_64 rfl (Nat.le_of_ble_eq_true rfl) [(1, .int (bI sb2)), (5, .ref n2), (4, .int 2), (3, .int (nI 4)), (2, .ref bn), (0, .ref of)] rfl 65 rfl ?_
              refine g_iinc hC dX1_isSettled_65 2 rfl (v := 3) (by rw [ki_1]; exact nI_a (a := 2) (b := 1) (c := 3) (by omega)) (Nat.le_of_ble_eq_true rfl) [(4, .int 3), (1, .int (bI sb2)), (5, .ref n2), (3, .int (nI 4)), (2, .ref bn), (0, .ref of)] rfl 68 rfl ?_
              refine g_goto hC dX1_isSettled_68 13 rfl ?_
              refine g_iload hC dX1_isSettled_13 0 rfl 15 rfl ?_
              refine g_iload_n hC dX1_isSettled_15 3 rfl 16 rfl ?_
              refine g_icmp_ge hC dX1_isSettled_16 71 rfl 19 rfl (fun c_7 => ?_) (fun c_7 => ?_)
              · exact absurd (show 4 ≤ 3 from nn_le (by omega) (by omega) c_7) (by omega)
              · replace c_7 : 3 < 4 := nn_nle (by omega) (by omega) c_7
                refine g_aload_n hC dX1_isSettled_19 4 rfl gRef_r 20 rfl ?_
                refine g_iload hC dX1_isSettled_20 0 rfl 22 rfl ?_
                refine g_aldq (r := some n3) hC hL_1 4 rfl (vp_in_nI (n := 3) (by first | decide | omega) (by first | decide | omega)) ((congrArg (va_up (va_up (va_up (va_up (fun _ => none) 0 (some n0)) 1 (some n1)) 2 (some n2)) 3 (some n3)) (nI_clamp (n := 3) (by decide))).trans rfl) dX1_isSettled_22 23 rfl ?_
                refine g_astore hC dX1_isSettled_23 gRef_r (Nat.le_of_ble_eq_true rfl) [(5, .ref n3), (4, .int 3), (1, .int (bI sb2)), (3, .int (nI 4)), (2, .ref bn), (0, .ref of)] rfl 25 rfl ?_
                obtain ⟨sa_z8, wa_z8, rc_z8, an_z8, er_z8, wq_z8, wm_z8, hO_z8, hW_z8, hA_z8, hf_z8, hl_z8⟩ := isNd.wc hLp_5
                have join64 : ∀ (sb3 : Bool), (hsb3 : sb3 = ((((true && nSt x0) && nSt x1) && nSt x2) && nSt x3)) → (M of = some ((ta, 100), .inr (1, [.ref bn, .ref bd, .ref bh, .int (nI tn), .int pl, .int ol, .int rv]))) → (M bn = some ((ta, 101), .inl (gcs G 4, 4, .inr (.inr (.inr (.inr (va_up (va_up (va_up (va_up (fun _ => none) 0 (some n0)) 1 (some n1)) 2 (some n2)) 3 (some n3)))))))) → (M bd = some ((ta, 102), .inr (17, [.int mc, .int (nI D.length), va_rf (llN D none), va_rf (llZ none D)]))) → (M bh = some ((ta, 104), .inl (gcs G 1, 256, .inl hs))) → (lls M (ta, 103) D) → (dss M D) → (isNd M G ta 0 of n0 x0) → (isNd M G ta 1 of n1 x1) → (isNd M G ta 2 of n2 x2) → (isNd M G ta 3 of n3 x3) → gJ p l e ({ frames := 2, cells := 0, slots := 0, locals := 40 } : Room) s m ([.ref of] : List Value).toArray below meth c G 6 (MQ below (gQi G (fun r9 M9 k9 => r9 = (bI ((((true && nSt x0) && nSt x1) && nSt x2) && nSt x3)) ∧ M9 = M ∧ k9 = 0)) ([.ref of] : List Value).toArray s 0 0 (gA G)) 0 0 M 64 [(5, .ref n3), (4, .int 3), (1, .int (bI sb2)), (3, .int (nI 4)), (2, .ref bn), (0, .ref of)] [.int (bI sb3)] := by
                  intro sb3 hsb3 hL_0 hL_1 hL_2 hL_3 hLp_0 hLp_1 hLp_2 hLp_3 hLp_4 hLp_5
                  refine g_istore_n hC dX1_isSettled_64 rfl (Nat.le_of_ble_eq_true rfl) [(1, .int (bI sb3)), (5, .ref n3), (4, .int 3), (3, .int (nI 4)), (2, .ref bn), (0, .ref of)] rfl 65 rfl ?_
                  refine g_iinc hC dX1_isSettled_65 2 rfl (v := 4) (by rw [ki_1]; exact nI_a (a := 3) (b := 1) (c := 4) (by omega)) (Nat.le_of_ble_eq_true rfl) [(4, .int 4), (1, .int (bI sb3)), (5, .ref n3), (3, .int (nI 4)), (2, .ref bn), (0, .ref of)] rfl 68 rfl ?_
                  refine g_goto hC dX1_isSettled_68 13 rfl ?_
                  refine g_iload hC dX1_isSettled_13 0 rfl 15 rfl ?_
                  refine g_iload_n hC dX1_isSettled_15 3 rfl 16 rfl ?_
                  refine g_icmp_ge hC dX1_isSettled_16 71 rfl 19 rfl (fun c_9 => ?_) (fun c_9 => ?_)
                  · replace c_9 : 4 ≤ 4 := nn_le (by omega) (by omega) c_9
                    refine g_iload_n hC dX1_isSettled_71 1 rfl 72 rfl ?_
                    exact g_zret (v := bI sb3) hC (bI_n sb3) (fun k9 hk9 => ⟨(congrArg bI hsb3), rfl, Nat.le_zero.mp hk9⟩) dX1_isSettled_72 (Nat.le_of_ble_eq_true rfl) (Nat.le_of_ble_eq_true rfl)
                  · exact absurd (show 4 < 4 from nn_nle (by omega) (by omega) c_9) (by omega)
                refine g_iload_n hC dX1_isSettled_25 2 rfl 26 rfl ?_
                refine g_if_eq hC dX1_isSettled_26 63 rfl 29 rfl (fun c_10 => ?_) (fun c_10 => ?_)
                · replace c_10 : sb2 = false := bB_e0 c_10
                  refine g_iconst hC dX1_isSettled_63 ki_0 64 rfl ?_
                  exact join64 false (by first | (have hz := nSt_t (x := x3) (by omega); clear hl_z8; simp_all) | simp_all [nSt]) hL_0 hL_1 hL_2 hL_3 hLp_0 hLp_1 hLp_2 hLp_3 hLp_4 hLp_5 
                · replace c_10 : sb2 = true := bB_n0 c_10
                  refine g_aload hC dX1_isSettled_29 0 rfl gRef_r 31 rfl ?_
                  refine g_calliP (g_V (As := []) (rest := []) hC mvX2_isOn q2294 (gOf.of hC.K cI2 hO_z8) (met_Nd_isOn l G M n3 (ta, 16 * 3) of x3.ph x3.cu sa_z8 wa_z8 rc_z8 an_z8 er_z8 x3.g hph_3 hO_z8) ⟨rfl, rfl⟩ ⟨(Nat.le_of_ble_eq_true rfl), (Nat.le_of_ble_eq_true rfl)⟩ rfl (Nat.le_of_ble_eq_true rfl) dX1_isSettled_31 rfl ⟨(Nat.le_of_ble_eq_true rfl), (Nat.le_of_ble_eq_true rfl)⟩) 34 rfl 0 (Nat.le_of_ble_eq_true rfl) ?_
                  refine g_if_eq hC dX1_isSettled_34 59 rfl 37 rfl (fun c_11 => ?_) (fun c_11 => ?_)
                  · replace c_11 := bId_0 c_11
                    refine g_iconst hC dX1_isSettled_59 ki_1 60 rfl ?_
                    refine g_goto hC dX1_isSettled_60 64 rfl ?_
                    exact join64 true (by first | (have hz := nSt_t (x := x3) (by omega); clear hl_z8; simp_all) | simp_all [nSt]) hL_0 hL_1 hL_2 hL_3 hLp_0 hLp_1 hLp_2 hLp_3 hLp_4 hLp_5 
                  · replace c_11 := bId_1 c_11
                    refine g_aload hC dX1_isSettled_37 0 rfl gRef_r 39 rfl ?_
                    refine g_getN (v := .ref (gph G x3.ph)) hC cI2 hO_z8 1 (Nat.le_of_ble_eq_true rfl) q370 rfl dX1_isSettled_39 42 rfl ?_
                    refine g_phase hC 3 (by decide) rfl q2299 dX1_isSettled_42 45 rfl ?_
                    refine g_acmp_ne (rx := some (gph G x3.ph)) (ry := some (gph G 3)) hC dX1_isSettled_45 63 rfl 48 rfl (fun c_12 => ?_) (fun c_12 => ?_)
                    · replace c_12 : ¬ x3.ph = 3 := gph_n hC c_12
                      refine g_iconst hC dX1_isSettled_63 ki_0 64 rfl ?_
                      exact join64 false (by first | (have hz := nSt_t (x := x3) (by omega); clear hl_z8; simp_all) | simp_all [nSt]) hL_0 hL_1 hL_2 hL_3 hLp_0 hLp_1 hLp_2 hLp_3 hLp_4 hLp_5 
                    · replace c_12 : x3.ph = 3 := gph_e hC (by omega) (by omega) c_12
                      refine g_aload hC dX1_isSettled_48 0 rfl gRef_r 50 rfl ?_
                      refine g_getN (v := .ref wa_z8) hC cI2 hO_z8 12 (Nat.le_of_ble_eq_true rfl) q395 rfl dX1_isSettled_50 53 rfl ?_
                      refine g_calliP (g_U (n := 0) (As := []) (rest := []) hC ⟨q2301, q2303, q2304, q104, q2305, (Or.inl rfl), by decide +kernel⟩ q2300 (gOf.of hC.K cI20 hW_z8) (met_PQ_isEmpty l G M wa_z8 wq_z8 (ta, 16 * 3 + 2) (0, 0) wm_z8 x3.W hl_z8 hW_z8) ⟨rfl, rfl⟩ ⟨(Nat.le_of_ble_eq_true rfl), (Nat.le_of_ble_eq_true rfl)⟩ rfl (Nat.le_of_ble_eq_true rfl) dX1_isSettled_53 rfl ⟨(Nat.le_of_ble_eq_true rfl), (Nat.le_of_ble_eq_true rfl)⟩) 56 rfl 0 (Nat.le_of_ble_eq_true rfl) ?_
                      refine g_if_eq hC dX1_isSettled_56 63 rfl 59 rfl (fun c_13 => ?_) (fun c_13 => ?_)
                      · replace c_13 := bId_0 c_13
                        refine g_iconst hC dX1_isSettled_63 ki_0 64 rfl ?_
                        exact join64 false (by first | (have hz := nSt_t (x := x3) (by omega); clear hl_z8; simp_all) | simp_all [nSt]) hL_0 hL_1 hL_2 hL_3 hLp_0 hLp_1 hLp_2 hLp_3 hLp_4 hLp_5 
                      · replace c_13 := bId_1 c_13
                        refine g_iconst hC dX1_isSettled_59 ki_1 60 rfl ?_
                        refine g_goto hC dX1_isSettled_60 64 rfl ?_
                        exact join64 true (by first | (have hz := nSt_t (x := x3) (by omega); clear hl_z8; simp_all) | simp_all [nSt]) hL_0 hL_1 hL_2 hL_3 hLp_0 hLp_1 hLp_2 hLp_3 hLp_4 hLp_5 
            refine g_iload_n hC dX1_isSettled_25 2 rfl 26 rfl ?_
            refine g_if_eq hC dX1_isSettled_26 63 rfl 29 rfl (fun c_14 => ?_) (fun c_14 => ?_)
            · replace c_14 : sb1 = false := bB_e0 c_14
              refine g_iconst hC dX1_isSettled_63 ki_0 64 rfl ?_
              exact join64 false (by first | (have hz := nSt_t (x := x2) (by omega); clear hl_z6; simp_all) | simp_all [nSt]) hL_0 hL_1 hL_2 hL_3 hLp_0 hLp_1 hLp_2 hLp_3 hLp_4 hLp_5 
            · replace c_14 : sb1 = true := bB_n0 c_14
              refine g_aload hC dX1_isSettled_29 0 rfl gRef_r 31 rfl ?_
              refine g_calliP (g_V (As := []) (rest := []) hC mvX2_isOn q2294 (gOf.of hC.K cI2 hO_z6) (met_Nd_isOn l G M n2 (ta, 16 * 2) of x2.ph x2.cu sa_z6 wa_z6 rc_z6 an_z6 er_z6 x2.g hph_2 hO_z6) ⟨rfl, rfl⟩ ⟨(Nat.le_of_ble_eq_true rfl), (Nat.le_of_ble_eq_true rfl)⟩ rfl (Nat.le_of_ble_eq_true rfl) dX1_isSettled_31 rfl ⟨(Nat.le_of_ble_eq_true rfl), (Nat.le_of_ble_eq_true rfl)⟩) 34 rfl 0 (Nat.le_of_ble_eq_true rfl) ?_
              refine g_if_eq hC dX1_isSettled_34 59 rfl 37 rfl (fun c_15 => ?_) (fun c_15 => ?_)
              · replace c_15 := bId_0 c_15
                refine g_iconst hC dX1_isSettled_59 ki_1 60 rfl ?_
                refine g_goto hC dX1_isSettled_60 64 rfl ?_
                exact join64 true (by first | (have hz := nSt_t (x := x2) (by omega); clear hl_z6; simp_all) | simp_all [nSt]) hL_0 hL_1 hL_2 hL_3 hLp_0 hLp_1 hLp_2 hLp_3 hLp_4 hLp_5 
              · replace c_15 := bId_1 c_15
                refine g_aload hC dX1_isSettled_37 0 rfl gRef_r 39 rfl ?_
                refine g_getN (v := .ref (gph G x2.ph)) hC cI2 hO_z6 1 (Nat.le_of_ble_eq_true rfl) q370 rfl dX1_isSettled_39 42 rfl ?_
                refine g_phase hC 3 (by decide) rfl q2299 dX1_isSettled_42 45 rfl ?_
                refine g_acmp_ne (rx := some (gph G x2.ph)) (ry := some (gph G 3)) hC dX1_isSettled_45 63 rfl 48 rfl (fun c_16 => ?_) (fun c_16 => ?_)
                · replace c_16 : ¬ x2.ph = 3 := gph_n hC c_16
                  refine g_iconst hC dX1_isSettled_63 ki_0 64 rfl ?_
                  exact join64 false (by first | (have hz := nSt_t (x := x2) (by omega); clear hl_z6; simp_all) | simp_all [nSt]) hL_0 hL_1 hL_2 hL_3 hLp_0 hLp_1 hLp_2 hLp_3 hLp_4 hLp_5 
                · replace c_16 : x2.ph = 3 := gph_e hC (by omega) (by omega) c_16
                  refine g_aload hC dX1_isSettled_48 0 rfl gRef_r 50 rfl ?_
                  refine g_getN (v := .ref wa_z6) hC cI2 hO_z6 12 (Nat.le_of_ble_eq_true rfl) q395 rfl dX1_isSettled_50 53 rfl ?_
                  refine g_calliP (g_U (n := 0) (As := []) (rest := []) hC ⟨q2301, q2303, q2304, q104, q2305, (Or.inl rfl), by decide +kernel⟩ q2300 (gOf.of hC.K cI20 hW_z6) (met_PQ_isEmpty l G M wa_z6 wq_z6 (ta, 16 * 2 + 2) (0, 0) wm_z6 x2.W hl_z6 hW_z6) ⟨rfl, rfl⟩ ⟨(Nat.le_of_ble_eq_true rfl), (Nat.le_of_ble_eq_true rfl)⟩ rfl (Nat.le_of_ble_eq_true rfl) dX1_isSettled_53 rfl ⟨(Nat.le_of_ble_eq_true rfl), (Nat.le_of_ble_eq_true rfl)⟩) 56 rfl 0 (Nat.le_of_ble_eq_true rfl) ?_
                  refine g_if_eq hC dX1_isSettled_56 63 rfl 59 rfl (fun c_17 => ?_) (fun c_17 => ?_)
                  · replace c_17 := bId_0 c_17
                    refine g_iconst hC dX1_isSettled_63 ki_0 64 rfl ?_
                    exact join64 false (by first | (have hz := nSt_t (x := x2) (by omega); clear hl_z6; simp_all) | simp_all [nSt]) hL_0 hL_1 hL_2 hL_3 hLp_0 hLp_1 hLp_2 hLp_3 hLp_4 hLp_5 
                  · replace c_17 := bId_1 c_17
                    refine g_iconst hC dX1_isSettled_59 ki_1 60 rfl ?_
                    refine g_goto hC dX1_isSettled_60 64 rfl ?_
                    exact join64 true (by first | (have hz := nSt_t (x := x2) (by omega); clear hl_z6; simp_all) | simp_all [nSt]) hL_0 hL_1 hL_2 hL_3 hLp_0 hLp_1 hLp_2 hLp_3 hLp_4 hLp_5 
        refine g_iload_n hC dX1_isSettled_25 2 rfl 26 rfl ?_
        refine g_if_eq hC dX1_isSettled_26 63 rfl 29 rfl (fun c_18 => ?_) (fun c_18 => ?_)
        · replace c_18 : sb0 = false := bB_e0 c_18
          refine g_iconst hC dX1_isSettled_63 ki_0 64 rfl ?_
          exact join64 false (by first | (have hz := nSt_t (x := x1) (by omega); clear hl_z4; simp_all) | simp_all [nSt]) hL_0 hL_1 hL_2 hL_3 hLp_0 hLp_1 hLp_2 hLp_3 hLp_4 hLp_5 
        · replace c_18 : sb0 = true := bB_n0 c_18
          refine g_aload hC dX1_isSettled_29 0 rfl gRef_r 31 rfl ?_
          refine g_calliP (g_V (As := []) (rest := []) hC mvX2_isOn q2294 (gOf.of hC.K cI2 hO_z4) (met_Nd_isOn l G M n1 (ta, 16 * 1) of x1.ph x1.cu sa_z4 wa_z4 rc_z4 an_z4 er_z4 x1.g hph_1 hO_z4) ⟨rfl, rfl⟩ ⟨(Nat.le_of_ble_eq_true rfl), (Nat.le_of_ble_eq_true rfl)⟩ rfl (Nat.le_of_ble_eq_true rfl) dX1_isSettled_31 rfl ⟨(Nat.le_of_ble_eq_true rfl), (Nat.le_of_ble_eq_true rfl)⟩) 34 rfl 0 (Nat.le_of_ble_eq_true rfl) ?_
          refine g_if_eq hC dX1_isSettled_34 59 rfl 37 rfl (fun c_19 => ?_) (fun c_19 => ?_)
          · replace c_19 := bId_0 c_19
            refine g_iconst hC dX1_isSettled_59 ki_1 60 rfl ?_
            refine g_goto hC dX1_isSettled_60 64 rfl ?_
            exact join64 true (by first | (have hz := nSt_t (x := x1) (by omega); clear hl_z4; simp_all) | simp_all [nSt]) hL_0 hL_1 hL_2 hL_3 hLp_0 hLp_1 hLp_2 hLp_3 hLp_4 hLp_5 
          · replace c_19 := bId_1 c_19
            refine g_aload hC dX1_isSettled_37 0 rfl gRef_r 39 rfl ?_
            refine g_getN (v := .ref (gph G x1.ph)) hC cI2 hO_z4 1 (Nat.le_of_ble_eq_true rfl) q370 rfl dX1_isSettled_39 42 rfl ?_
            refine g_phase hC 3 (by decide) rfl q2299 dX1_isSettled_42 45 rfl ?_
            refine g_acmp_ne (rx := some (gph G x1.ph)) (ry := some (gph G 3)) hC dX1_isSettled_45 63 rfl 48 rfl (fun c_20 => ?_) (fun c_20 => ?_)
            · replace c_20 : ¬ x1.ph = 3 := gph_n hC c_20
              refine g_iconst hC dX1_isSettled_63 ki_0 64 rfl ?_
              exact join64 false (by first | (have hz := nSt_t (x := x1) (by omega); clear hl_z4; simp_all) | simp_all [nSt]) hL_0 hL_1 hL_2 hL_3 hLp_0 hLp_1 hLp_2 hLp_3 hLp_4 hLp_5 
            · replace c_20 : x1.ph = 3 := gph_e hC (by omega) (by omega) c_20
              refine g_aload hC dX1_isSettled_48 0 rfl gRef_r 50 rfl ?_
              refine g_getN (v := .ref wa_z4) hC cI2 hO_z4 12 (Nat.le_of_ble_eq_true rfl) q395 rfl dX1_isSettled_50 53 rfl ?_
              refine g_calliP (g_U (n := 0) (As := []) (rest := []) hC ⟨q2301, q2303, q2304, q104, q2305, (Or.inl rfl), by decide +kernel⟩ q2300 (gOf.of hC.K cI20 hW_z4) (met_PQ_isEmpty l G M wa_z4 wq_z4 (ta, 16 * 1 + 2) (0, 0) wm_z4 x1.W hl_z4 hW_z4) ⟨rfl, rfl⟩ ⟨(Nat.le_of_ble_eq_true rfl), (Nat.le_of_ble_eq_true rfl)⟩ rfl (Nat.le_of_ble_eq_true rfl) dX1_isSettled_53 rfl ⟨(Nat.le_of_ble_eq_true rfl), (Nat.le_of_ble_eq_true rfl)⟩) 56 rfl 0 (Nat.le_of_ble_eq_true rfl) ?_
              refine g_if_eq hC dX1_isSettled_56 63 rfl 59 rfl (fun c_21 => ?_) (fun c_21 => ?_)
              · replace c_21 := bId_0 c_21
                refine g_iconst hC dX1_isSettled_63 ki_0 64 rfl ?_
                exact join64 false (by first | (have hz := nSt_t (x := x1) (by omega); clear hl_z4; simp_all) | simp_all [nSt]) hL_0 hL_1 hL_2 hL_3 hLp_0 hLp_1 hLp_2 hLp_3 hLp_4 hLp_5 
              · replace c_21 := bId_1 c_21
                refine g_iconst hC dX1_isSettled_59 ki_1 60 rfl ?_
                refine g_goto hC dX1_isSettled_60 64 rfl ?_
                exact join64 true (by first | (have hz := nSt_t (x := x1) (by omega); clear hl_z4; simp_all) | simp_all [nSt]) hL_0 hL_1 hL_2 hL_3 hLp_0 hLp_1 hLp_2 hLp_3 hLp_4 hLp_5 
    refine g_iload_n hC dX1_isSettled_25 4 rfl 26 rfl ?_
    refine g_if_eq hC dX1_isSettled_26 63 rfl 29 rfl (fun c_22 => ?_) (fun c_22 => ?_)
    · replace c_22 : true = false := bB_e0 c_22
      refine g_iconst hC dX1_isSettled_63 ki_0 64 rfl ?_
      exact join64 false (by first | (have hz := nSt_t (x := x0) (by omega); clear hl_z2; simp_all) | simp_all [nSt]) hM_0 hM_1 hM_2 hM_3 hP_0 hP_1 hP_2 hP_3 hP_4 hP_5 
    · replace c_22 : true = true := bB_n0 c_22
      refine g_aload hC dX1_isSettled_29 0 rfl gRef_r 31 rfl ?_
      refine g_calliP (g_V (As := []) (rest := []) hC mvX2_isOn q2294 (gOf.of hC.K cI2 hO_z2) (met_Nd_isOn l G M n0 (ta, 16 * 0) of x0.ph x0.cu sa_z2 wa_z2 rc_z2 an_z2 er_z2 x0.g hph_0 hO_z2) ⟨rfl, rfl⟩ ⟨(Nat.le_of_ble_eq_true rfl), (Nat.le_of_ble_eq_true rfl)⟩ rfl (Nat.le_of_ble_eq_true rfl) dX1_isSettled_31 rfl ⟨(Nat.le_of_ble_eq_true rfl), (Nat.le_of_ble_eq_true rfl)⟩) 34 rfl 0 (Nat.le_of_ble_eq_true rfl) ?_
      refine g_if_eq hC dX1_isSettled_34 59 rfl 37 rfl (fun c_23 => ?_) (fun c_23 => ?_)
      · replace c_23 := bId_0 c_23
        refine g_iconst hC dX1_isSettled_59 ki_1 60 rfl ?_
        refine g_goto hC dX1_isSettled_60 64 rfl ?_
        exact join64 true (by first | (have hz := nSt_t (x := x0) (by omega); clear hl_z2; simp_all) | simp_all [nSt]) hM_0 hM_1 hM_2 hM_3 hP_0 hP_1 hP_2 hP_3 hP_4 hP_5 
      · replace c_23 := bId_1 c_23
        refine g_aload hC dX1_isSettled_37 0 rfl gRef_r 39 rfl ?_
        refine g_getN (v := .ref (gph G x0.ph)) hC cI2 hO_z2 1 (Nat.le_of_ble_eq_true rfl) q370 rfl dX1_isSettled_39 42 rfl ?_
        refine g_phase hC 3 (by decide) rfl q2299 dX1_isSettled_42 45 rfl ?_
        refine g_acmp_ne (rx := some (gph G x0.ph)) (ry := some (gph G 3)) hC dX1_isSettled_45 63 rfl 48 rfl (fun c_24 => ?_) (fun c_24 => ?_)
        · replace c_24 : ¬ x0.ph = 3 := gph_n hC c_24
          refine g_iconst hC dX1_isSettled_63 ki_0 64 rfl ?_
          exact join64 false (by first | (have hz := nSt_t (x := x0) (by omega); clear hl_z2; simp_all) | simp_all [nSt]) hM_0 hM_1 hM_2 hM_3 hP_0 hP_1 hP_2 hP_3 hP_4 hP_5 
        · replace c_24 : x0.ph = 3 := gph_e hC (by omega) (by omega) c_24
          refine g_aload hC dX1_isSettled_48 0 rfl gRef_r 50 rfl ?_
          refine g_getN (v := .ref wa_z2) hC cI2 hO_z2 12 (Nat.le_of_ble_eq_true rfl) q395 rfl dX1_isSettled_50 53 rfl ?_
          refine g_calliP (g_U (n := 0) (As := []) (rest := []) hC ⟨q2301, q2303, q2304, q104, q2305, (Or.inl rfl), by decide +kernel⟩ q2300 (gOf.of hC.K cI20 hW_z2) (met_PQ_isEmpty l G M wa_z2 wq_z2 (ta, 16 * 0 + 2) (0, 0) wm_z2 x0.W hl_z2 hW_z2) ⟨rfl, rfl⟩ ⟨(Nat.le_of_ble_eq_true rfl), (Nat.le_of_ble_eq_true rfl)⟩ rfl (Nat.le_of_ble_eq_true rfl) dX1_isSettled_53 rfl ⟨(Nat.le_of_ble_eq_true rfl), (Nat.le_of_ble_eq_true rfl)⟩) 56 rfl 0 (Nat.le_of_ble_eq_true rfl) ?_
          refine g_if_eq hC dX1_isSettled_56 63 rfl 59 rfl (fun c_25 => ?_) (fun c_25 => ?_)
          · replace c_25 := bId_0 c_25
            refine g_iconst hC dX1_isSettled_63 ki_0 64 rfl ?_
            exact join64 false (by first | (have hz := nSt_t (x := x0) (by omega); clear hl_z2; simp_all) | simp_all [nSt]) hM_0 hM_1 hM_2 hM_3 hP_0 hP_1 hP_2 hP_3 hP_4 hP_5 
          · replace c_25 := bId_1 c_25
            refine g_iconst hC dX1_isSettled_59 ki_1 60 rfl ?_
            refine g_goto hC dX1_isSettled_60 64 rfl ?_
            exact join64 true (by first | (have hz := nSt_t (x := x0) (by omega); clear hl_z2; simp_all) | simp_all [nSt]) hM_0 hM_1 hM_2 hM_3 hP_0 hP_1 hP_2 hP_3 hP_4 hP_5 
theorem nSt_eq {f : Nat → Int32} {k q : Nat} {x : NS} (h : relN f k q x) : nSt x = decide (f (256 * k) = 0 ∨ f (256 * k) = 1 ∨ (f (256 * k) = 3 ∧ f (256 * k + 23) = 0)) := by
  obtain ⟨V, h⟩ := h
  have hP := h.2.2.1
  have c3 := h.1.2.2.1
  have hl := c3.1.length_eq
  have h4 := c3.2.2.2.2.1
  have h10 := hP.1.2
  unfold nSt
  refine decide_eq_decide.mpr ?_
  rw [hP.1.1, c3.2.2.2.2.2.1, ← hl]
  have e0 : (nI x.ph = 0) ↔ x.ph = 0 := nI_eq (b := 0) (by omega) (by decide)
  have e1 : (nI x.ph = 1) ↔ x.ph = 1 := nI_eq (b := 1) (by omega) (by decide)
  have e3 : (nI x.ph = 3) ↔ x.ph = 3 := nI_eq (b := 3) (by omega) (by decide)
  have e4 : (nI V.length = 0) ↔ V.length = 0 := nI_eq (b := 0) (by omega) (by decide)
  rw [e0, e1, e3, e4]
set_option maxHeartbeats 4000000 in
theorem met_B_isSettled (l : Launch) (G : gG) (M : gM) (ta : Nat) (of : Nat) (f : Nat → Int32) (q : Nat) (hta : 2 ≤ ta ∧ ta < 9)  (hP_0 : busR M G ta of f q) : Met l yX1_isSettled (ws_ yX1_isSettled cX1_isSettled 6 (some .boolean)) ({ frames := 2, cells := 0, slots := 0, locals := 40 }) (gPc G [.ref of] M) (gQi G (fun r9 M9 k9 => r9 = (bI (stT f 4)) ∧ M9 = M ∧ k9 = 0)) 0 0 (gA G) := by
  obtain ⟨x0, x1, x2, x3, D, hs, tn, pl, ol, rv, ⟨bn, bd, bh, n0, n1, n2, n3, mc, b0, b1, b2, b3, l1, l2, z0, z1, z2, z3⟩, hR⟩ := hP_0
  obtain ⟨r0, r1, r2, r3⟩ := hR.1
  have h := met_B_isSettled0 l G M of ta bn bd bh tn pl ol rv n0 n1 n2 n3 x0 x1 x2 x3 D mc hs hta r0.ph.2 r1.ph.2 r2.ph.2 r3.ph.2 b0 b1 b2 b3 l1 l2 z0 z1 z2 z3
  rw [nSt_eq r0, nSt_eq r1, nSt_eq r2, nSt_eq r3] at h
  exact h
set_option maxHeartbeats 4000000 in
theorem met_B_attached0 (l : Launch) (G : gG) (M : gM) (of : Nat) (ta : Nat) (bn : Nat) (bd : Nat) (bh : Nat) (tn : Nat) (pl : Int32) (ol : Int32) (rv : Int32) (n0 : Nat) (n1 : Nat) (n2 : Nat) (n3 : Nat) (x0 : NS) (x1 : NS) (x2 : NS) (x3 : NS) (D : List dsE) (mc : Int32) (hs : Nat → Int32) (hta : 2 ≤ ta ∧ ta < 9) (hph_0 : x0.ph < 10) (hph_1 : x1.ph < 10) (hph_2 : x2.ph < 10) (hph_3 : x3.ph < 10) (hM_0 : M of = some ((ta, 100), .inr (1, [.ref bn, .ref bd, .ref bh, .int (nI tn), .int pl, .int ol, .int rv]))) (hM_1 : M bn = some ((ta, 101), .inl (gcs G 4, 4, .inr (.inr (.inr (.inr (va_up (va_up (va_up (va_up (fun _ => none) 0 (some n0)) 1 (some n1)) 2 (some n2)) 3 (some n3)))))))) (hM_2 : M bd = some ((ta, 102), .inr (17, [.int mc, .int (nI D.length), va_rf (llN D none), va_rf (llZ none D)]))) (hM_3 : M bh = some ((ta, 104), .inl (gcs G 1, 256, .inl hs))) (hP_0 : lls M (ta, 103) D) (hP_1 : dss M D) (hP_2 : isNd M G ta 0 of n0 x0) (hP_3 : isNd M G ta 1 of n1 x1) (hP_4 : isNd M G ta 2 of n2 x2) (hP_5 : isNd M G ta 3 of n3 x3) : Met l yX1_attached (ws_ yX1_attached cX1_attached 6 (some .int)) ({ frames := 0, cells := 0, slots := 0, locals := 0 }) (gPc G [.ref of] M) (gQi G (fun r9 M9 k9 => r9 = ((((0 + (if x0.ph = 0 then 0 else 1)) + (if x1.ph = 0 then 0 else 1)) + (if x2.ph = 0 then 0 else 1)) + (if x3.ph = 0 then (0 : Int32) else 1)) ∧ M9 = M ∧ k9 = 0)) 0 0 (gA G) := by
  refine gMet [(0, .ref of)] (by decide) (Nat.le_of_ble_eq_true rfl) rfl ?_
  intro p e s m below meth c hC
  refine g_iconst hC dX1_attached_0 ki_0 1 rfl ?_
  refine g_istore_n hC dX1_attached_1 rfl (Nat.le_of_ble_eq_true rfl) [(1, .int 0), (0, .ref of)] rfl 2 rfl ?_
  refine g_aload_n hC dX1_attached_2 1 rfl gRef_r 3 rfl ?_
  refine g_get (v := .ref bn) hC cI1 hM_0 0 (Nat.le_of_ble_eq_true rfl) q469 rfl dX1_attached_3 6 rfl ?_
  refine g_astore_n hC dX1_attached_6 rfl gRef_r (Nat.le_of_ble_eq_true rfl) [(2, .ref bn), (1, .int 0), (0, .ref of)] rfl 7 rfl ?_
  refine g_aload_n hC dX1_attached_7 0 rfl gRef_r 8 rfl ?_
  refine g_alen (v := nI 4) hC hM_1 4 rfl rfl dX1_attached_8 9 rfl ?_
  refine g_istore_n hC dX1_attached_9 rfl (Nat.le_of_ble_eq_true rfl) [(3, .int (nI 4)), (2, .ref bn), (1, .int 0), (0, .ref of)] rfl 10 rfl ?_
  refine g_iconst hC dX1_attached_10 ki_0 11 rfl ?_
  refine g_istore hC dX1_attached_11 (Nat.le_of_ble_eq_true rfl) [(4, .int 0), (3, .int (nI 4)), (2, .ref bn), (1, .int 0), (0, .ref of)] rfl 13 rfl ?_
  refine g_iload hC dX1_attached_13 0 rfl 15 rfl ?_
  refine g_iload_n hC dX1_attached_15 1 rfl 16 rfl ?_
  refine g_icmp_ge hC dX1_attached_16 50 rfl 19 rfl (fun c_1 => ?_) (fun c_1 => ?_)
  · exact absurd (show 4 ≤ 0 from nn_le (by omega) (by omega) c_1) (by omega)
  · replace c_1 : 0 < 4 := nn_nle (by omega) (by omega) c_1
    refine g_aload_n hC dX1_attached_19 2 rfl gRef_r 20 rfl ?_
    refine g_iload hC dX1_attached_20 0 rfl 22 rfl ?_
    refine g_aldq (r := some n0) hC hM_1 4 rfl (vp_in_nI (n := 0) (by first | decide | omega) (by first | decide | omega)) ((congrArg (va_up (va_up (va_up (va_up (fun _ => none) 0 (some n0)) 1 (some n1)) 2 (some n2)) 3 (some n3)) (nI_clamp (n := 0) (by decide))).trans rfl) dX1_attached_22 23 rfl ?_
    refine g_astore hC dX1_attached_23 gRef_r (Nat.le_of_ble_eq_true rfl) [(5, .ref n0), (4, .int 0), (3, .int (nI 4)), (2, .ref bn), (1, .int 0), (0, .ref of)] rfl 25 rfl ?_
    obtain ⟨sa_z2, wa_z2, rc_z2, an_z2, er_z2, hO_z2⟩ := isNd.cell hP_2
    have join42 : ∀ (jv0 : Int32), (hjv0 : jv0 = if x0.ph = 0 then 0 else 1) → (M of = some ((ta, 100), .inr (1, [.ref bn, .ref bd, .ref bh, .int (nI tn), .int pl, .int ol, .int rv]))) → (M bn = some ((ta, 101), .inl (gcs G 4, 4, .inr (.inr (.inr (.inr (va_up (va_up (va_up (va_up (fun _ => none) 0 (some n0)) 1 (some n1)) 2 (some n2)) 3 (some n3)))))))) → (M bd = some ((ta, 102), .inr (17, [.int mc, .int (nI D.length), va_rf (llN D none), va_rf (llZ none D)]))) → (M bh = some ((ta, 104), .inl (gcs G 1, 256, .inl hs))) → (lls M (ta, 103) D) → (dss M D) → (isNd M G ta 0 of n0 x0) → (isNd M G ta 1 of n1 x1) → (isNd M G ta 2 of n2 x2) → (isNd M G ta 3 of n3 x3) → gJ p l e ({ frames := 0, cells := 0, slots := 0, locals := 0 } : Room) s m ([.ref of] : List Value).toArray below meth c G 6 (MQ below (gQi G (fun r9 M9 k9 => r9 = ((((0 + (if x0.ph = 0 then 0 else 1)) + (if x1.ph = 0 then 0 else 1)) + (if x2.ph = 0 then 0 else 1)) + (if x3.ph = 0 then (0 : Int32) else 1)) ∧ M9 = M ∧ k9 = 0)) ([.ref of] : List Value).toArray s 0 0 (gA G)) 0 0 M 42 [(5, .ref n0), (4, .int 0), (3, .int (nI 4)), (2, .ref bn), (1, .int 0), (0, .ref of)] [.int jv0, .int 0] := by
      intro jv0 hjv0 hL_0 hL_1 hL_2 hL_3 hLp_0 hLp_1 hLp_2 hLp_3 hLp_4 hLp_5
      refine g_iadd hC dX1_attached_42 43 rfl ?_
      refine g_istore_n hC dX1_attached_43 rfl (Nat.le_of_ble_eq_true rfl) [(1, .int (0 + jv0)), (5, .ref n0), (4, .int 0), (3, .int (nI 4)), (2, .ref bn), (0, .ref of)] rfl 44 rfl ?_
      refine g_iinc hC dX1_attached_44 2 rfl (v := 1) (by rw [ki_1]; exact nI_a (a := 0) (b := 1) (c := 1) (by omega)) (Nat.le_of_ble_eq_true rfl) [(4, .int 1), (1, .int (0 + jv0)), (5, .ref n0), (3, .int (nI 4)), (2, .ref bn), (0, .ref of)] rfl 47 rfl ?_
      refine g_goto hC dX1_attached_47 13 rfl ?_
      refine g_iload hC dX1_attached_13 0 rfl 15 rfl ?_
      refine g_iload_n hC dX1_attached_15 3 rfl 16 rfl ?_
      refine g_icmp_ge hC dX1_attached_16 50 rfl 19 rfl (fun c_3 => ?_) (fun c_3 => ?_)
      · exact absurd (show 4 ≤ 1 from nn_le (by omega) (by omega) c_3) (by omega)
      · replace c_3 : 1 < 4 := nn_nle (by omega) (by omega) c_3
        refine g_aload_n hC dX1_attached_19 4 rfl gRef_r 20 rfl ?_
        refine g_iload hC dX1_attached_20 0 rfl 22 rfl ?_
        refine g_aldq (r := some n1) hC hL_1 4 rfl (vp_in_nI (n := 1) (by first | decide | omega) (by first | decide | omega)) ((congrArg (va_up (va_up (va_up (va_up (fun _ => none) 0 (some n0)) 1 (some n1)) 2 (some n2)) 3 (some n3)) (nI_clamp (n := 1) (by decide))).trans rfl) dX1_attached_22 23 rfl ?_
        refine g_astore hC dX1_attached_23 gRef_r (Nat.le_of_ble_eq_true rfl) [(5, .ref n1), (4, .int 1), (1, .int (0 + jv0)), (3, .int (nI 4)), (2, .ref bn), (0, .ref of)] rfl 25 rfl ?_
        obtain ⟨sa_z4, wa_z4, rc_z4, an_z4, er_z4, hO_z4⟩ := isNd.cell hLp_3
        have join42 : ∀ (jv1 : Int32), (hjv1 : jv1 = if x1.ph = 0 then 0 else 1) → (M of = some ((ta, 100), .inr (1, [.ref bn, .ref bd, .ref bh, .int (nI tn), .int pl, .int ol, .int rv]))) → (M bn = some ((ta, 101), .inl (gcs G 4, 4, .inr (.inr (.inr (.inr (va_up (va_up (va_up (va_up (fun _ => none) 0 (some n0)) 1 (some n1)) 2 (some n2)) 3 (some n3)))))))) → (M bd = some ((ta, 102), .inr (17, [.int mc, .int (nI D.length), va_rf (llN D none), va_rf (llZ none D)]))) → (M bh = some ((ta, 104), .inl (gcs G 1, 256, .inl hs))) → (lls M (ta, 103) D) → (dss M D) → (isNd M G ta 0 of n0 x0) → (isNd M G ta 1 of n1 x1) → (isNd M G ta 2 of n2 x2) → (isNd M G ta 3 of n3 x3) → gJ p l e ({ frames := 0, cells := 0, slots := 0, locals := 0 } : Room) s m ([.ref of] : List Value).toArray below meth c G 6 (MQ below (gQi G (fun r9 M9 k9 => r9 = ((((0 + (if x0.ph = 0 then 0 else 1)) + (if x1.ph = 0 then 0 else 1)) + (if x2.ph = 0 then 0 else 1)) + (if x3.ph = 0 then (0 : Int32) else 1)) ∧ M9 = M ∧ k9 = 0)) ([.ref of] : List Value).toArray s 0 0 (gA G)) 0 0 M 42 [(5, .ref n1), (4, .int 1), (1, .int (0 + jv0)), (3, .int (nI 4)), (2, .ref bn), (0, .ref of)] [.int jv1, .int (0 + jv0)] := by
          intro jv1 hjv1 hL_0 hL_1 hL_2 hL_3 hLp_0 hLp_1 hLp_2 hLp_3 hLp_4 hLp_5
          refine g_iadd hC dX1_attached_42 43 rfl ?_
          refine g_istore_n hC dX1_attached_43 rfl (Nat.le_of_ble_eq_true rfl) [(1, .int ((0 + jv0) + jv1)), (5, .ref n1), (4, .int 1), (3, .int (nI 4)), (2, .ref bn), (0, .ref of)] rfl 44 rfl ?_
          refine g_iinc hC dX1_attached_44 2 rfl (v := 2) (by rw [ki_1]; exact nI_a (a := 1) (b := 1) (c := 2) (by omega)) (Nat.le_of_ble_eq_true rfl) [(4, .int 2), (1, .int ((0 + jv0) + jv1)), (5, .ref n1), (3, .int (nI 4)), (2, .ref bn), (0, .ref of)] rfl 47 rfl ?_
          refine g_goto hC dX1_attached_47 13 rfl ?_
          refine g_iload hC dX1_attached_13 0 rfl 15 rfl ?_
          refine g_iload_n hC dX1_attached_15 3 rfl 16 rfl ?_
          refine g_icmp_ge hC dX1_attached_16 50 rfl 19 rfl (fun c_5 => ?_) (fun c_5 => ?_)
          · exact absurd (show 4 ≤ 2 from nn_le (by omega) (by omega) c_5) (by omega)
          · replace c_5 : 2 < 4 := nn_nle (by omega) (by omega) c_5
            refine g_aload_n hC dX1_attached_19 4 rfl gRef_r 20 rfl ?_
            refine g_iload hC dX1_attached_20 0 rfl 22 rfl ?_
            refine g_aldq (r := some n2) hC hL_1 4 rfl (vp_in_nI (n := 2) (by first | decide | omega) (by first | decide | omega)) ((congrArg (va_up (va_up (va_up (va_up (fun _ => none) 0 (some n0)) 1 (some n1)) 2 (some n2)) 3 (some n3)) (nI_clamp (n := 2) (by decide))).trans rfl) dX1_attached_22 23 rfl ?_
            refine g_astore hC dX1_attached_23 gRef_r (Nat.le_of_ble_eq_true rfl) [(5, .ref n2), (4, .int 2), (1, .int ((0 + jv0) + jv1)), (3, .int (nI 4)), (2, .ref bn), (0, .ref of)] rfl 25 rfl ?_
            obtain ⟨sa_z6, wa_z6, rc_z6, an_z6, er_z6, hO_z6⟩ := isNd.cell hLp_4
            have join42 : ∀ (jv2 : Int32), (hjv2 : jv2 = if x2.ph = 0 then 0 else 1) → (M of = some ((ta, 100), .inr (1, [.ref bn, .ref bd, .ref bh, .int (nI tn), .int pl, .int ol, .int rv]))) → (M bn = some ((ta, 101), .inl (gcs G 4, 4, .inr (.inr (.inr (.inr (va_up (va_up (va_up (va_up (fun _ => none) 0 (some n0)) 1 (some n1)) 2 (some n2)) 3 (some n3)))))))) → (M bd = some ((ta, 102), .inr (17, [.int mc, .int (nI D.length), va_rf (llN D none), va_rf (llZ none D)]))) → (M bh = some ((ta, 104), .inl (gcs G 1, 256, .inl hs))) → (lls M (ta, 103) D) → (dss M D) → (isNd M G ta 0 of n0 x0) → (isNd M G ta 1 of n1 x1) → (isNd M G ta 2 of n2 x2) → (isNd M G ta 3 of n3 x3) → gJ p l e ({ frames := 0, cells := 0, slots := 0, locals := 0 } : Room) s m ([.ref of] : List Value).toArray below meth c G 6 (MQ below (gQi G (fun r9 M9 k9 => r9 = ((((0 + (if x0.ph = 0 then 0 else 1)) + (if x1.ph = 0 then 0 else 1)) + (if x2.ph = 0 then 0 else 1)) + (if x3.ph = 0 then (0 : Int32) else 1)) ∧ M9 = M ∧ k9 = 0)) ([.ref of] : List Value).toArray s 0 0 (gA G)) 0 0 M 42 [(5, .ref n2), (4, .int 2), (1, .int ((0 + jv0) + jv1)), (3, .int (nI 4)), (2, .ref bn), (0, .ref of)] [.int jv2, .int ((0 + jv0) + jv1)] := by
              intro jv2 hjv2 hL_0 hL_1 hL_2 hL_3 hLp_0 hLp_1 hLp_2 hLp_3 hLp_4 hLp_5
              refine g_iadd hC dX1_attached_42 43 rfl ?_
              refine g_istore_n hC dX1_attached_43 rfl (Nat.le_of_ble_eq_true rfl) [(1, .int (((0 + jv0) + jv1) + jv2)), (5, .ref n2), (4, .int 2), (3, .int (nI 4)), (2, .ref bn), (0, .ref of)] rfl 44 rfl ?_
              refine g_iinc hC dX1_attached_44 2 rfl (v := 3) (by rw [ki_1]; exact nI_a (a := 2) (b := 1) (c := 3) (by omega)) (Nat.le_of_ble_eq_true rfl) [(4, .int 3), (1, .int (((0 + jv0) + jv1) + jv2)), (5, .ref n2), (3, .int (nI 4)), (2, .ref bn), (0, .ref of)] rfl 47 rfl ?_
              refine g_goto hC dX1_attached_47 13 rfl ?_
              refine g_iload hC dX1_attached_13 0 rfl 15 rfl ?_
              refine g_iload_n hC dX1_attached_15 3 rfl 16 rfl ?_
              refine g_icmp_ge hC dX1_attached_16 50 rfl 19 rfl (fun c_7 => ?_) (fun c_7 => ?_)
              · exact absurd (show 4 ≤ 3 from nn_le (by omega) (by omega) c_7) (by omega)
              · replace c_7 : 3 < 4 := nn_nle (by omega) (by omega) c_7
                refine g_aload_n hC dX1_attached_19 4 rfl gRef_r 20 rfl ?_
                refine g_iload hC dX1_attached_20 0 rfl 22 rfl ?_
                refine g_aldq (r := some n3) hC hL_1 4 rfl (vp_in_nI (n := 3) (by first | decide | omega) (by first | decide | omega)) ((congrArg (va_up (va_up (va_up (va_up (fun _ => none) 0 (some n0)) 1 (some n1)) 2 (some n2)) 3 (some n3)) (nI_clamp (n := 3) (by decide))).trans rfl) dX1_attached_22 23 rfl ?_
                refine g_astore hC dX1_attached_23 gRef_r (Nat.le_of_ble_eq_true rfl) [(5, .ref n3), (4, .int 3), (1, .int (((0 + jv0) + jv1) + jv2)), (3, .int (nI 4)), (2, .ref bn), (0, .ref of)] rfl 25 rfl ?_
                obtain ⟨sa_z8, wa_z8, rc_z8, an_z8, er_z8, hO_z8⟩ := isNd.cell hLp_5
                have join42 : ∀ (jv3 : Int32), (hjv3 : jv3 = if x3.ph = 0 then 0 else 1) → (M of = some ((ta, 100), .inr (1, [.ref bn, .ref bd, .ref bh, .int (nI tn), .int pl, .int ol, .int rv]))) → (M bn = some ((ta, 101), .inl (gcs G 4, 4, .inr (.inr (.inr (.inr (va_up (va_up (va_up (va_up (fun _ => none) 0 (some n0)) 1 (some n1)) 2 (some n2)) 3 (some n3)))))))) → (M bd = some ((ta, 102), .inr (17, [.int mc, .int (nI D.length), va_rf (llN D none), va_rf (llZ none D)]))) → (M bh = some ((ta, 104), .inl (gcs G 1, 256, .inl hs))) → (lls M (ta, 103) D) → (dss M D) → (isNd M G ta 0 of n0 x0) → (isNd M G ta 1 of n1 x1) → (isNd M G ta 2 of n2 x2) → (isNd M G ta 3 of n3 x3) → gJ p l e ({ frames := 0, cells := 0, slots := 0, locals := 0 } : Room) s m ([.ref of] : List Value).toArray below meth c G 6 (MQ below (gQi G (fun r9 M9 k9 => r9 = ((((0 + (if x0.ph = 0 then 0 else 1)) + (if x1.ph = 0 then 0 else 1)) + (if x2.ph = 0 then 0 else 1)) + (if x3.ph = 0 then (0 : Int32) else 1)) ∧ M9 = M ∧ k9 = 0)) ([.ref of] : List Value).toArray s 0 0 (gA G)) 0 0 M 42 [(5, .ref n3), (4, .int 3), (1, .int (((0 + jv0) + jv1) + jv2)), (3, .int (nI 4)), (2, .ref bn), (0, .ref of)] [.int jv3, .int (((0 + jv0) + jv1) + jv2)] := by
                  intro jv3 hjv3 hL_0 hL_1 hL_2 hL_3 hLp_0 hLp_1 hLp_2 hLp_3 hLp_4 hLp_5
                  refine g_iadd hC dX1_attached_42 43 rfl ?_
                  refine g_istore_n hC dX1_attached_43 rfl (Nat.le_of_ble_eq_true rfl) [(1, .int ((((0 + jv0) + jv1) + jv2) + jv3)), (5, .ref n3), (4, .int 3), (3, .int (nI 4)), (2, .ref bn), (0, .ref of)] rfl 44 rfl ?_
                  refine g_iinc hC dX1_attached_44 2 rfl (v := 4) (by rw [ki_1]; exact nI_a (a := 3) (b := 1) (c := 4) (by omega)) (Nat.le_of_ble_eq_true rfl) [(4, .int 4), (1, .int ((((0 + jv0) + jv1) + jv2) + jv3)), (5, .ref n3), (3, .int (nI 4)), (2, .ref bn), (0, .ref of)] rfl 47 rfl ?_
                  refine g_goto hC dX1_attached_47 13 rfl ?_
                  refine g_iload hC dX1_attached_13 0 rfl 15 rfl ?_
                  refine g_iload_n hC dX1_attached_15 3 rfl 16 rfl ?_
                  refine g_icmp_ge hC dX1_attached_16 50 rfl 19 rfl (fun c_9 => ?_) (fun c_9 => ?_)
                  · replace c_9 : 4 ≤ 4 := nn_le (by omega) (by omega) c_9
                    refine g_iload_n hC dX1_attached_50 1 rfl 51 rfl ?_
                    exact g_iret (v := (((0 + jv0) + jv1) + jv2) + jv3) hC (fun k9 hk9 => ⟨(by rw [hjv0, hjv1, hjv2, hjv3]), rfl, Nat.le_zero.mp hk9⟩) dX1_attached_51 (Nat.le_of_ble_eq_true rfl) (Nat.le_of_ble_eq_true rfl)
                  · exact absurd (show 4 < 4 from nn_nle (by omega) (by omega) c_9) (by omega)
                refine g_iload_n hC dX1_attached_25 2 rfl 26 rfl ?_
                refine g_aload hC dX1_attached_26 0 rfl gRef_r 28 rfl ?_
                refine g_getN (v := .ref (gph G x3.ph)) hC cI2 hO_z8 1 (Nat.le_of_ble_eq_true rfl) q370 rfl dX1_attached_28 31 rfl ?_
                refine g_phase hC 0 (by decide) rfl q1133 dX1_attached_31 34 rfl ?_
                refine g_acmp_ne (rx := some (gph G x3.ph)) (ry := some (gph G 0)) hC dX1_attached_34 41 rfl 37 rfl (fun c_10 => ?_) (fun c_10 => ?_)
                · replace c_10 : ¬ x3.ph = 0 := gph_n hC c_10
                  refine g_iconst hC dX1_attached_41 ki_1 42 rfl ?_
                  exact join42 1 (by simp only [eq_false c_10, if_true, if_false]) hL_0 hL_1 hL_2 hL_3 hLp_0 hLp_1 hLp_2 hLp_3 hLp_4 hLp_5 
                · replace c_10 : x3.ph = 0 := gph_e hC (by omega) (by omega) c_10
                  refine g_iconst hC dX1_attached_37 ki_0 38 rfl ?_
                  refine g_goto hC dX1_attached_38 42 rfl ?_
                  exact join42 0 (by simp only [eq_true c_10, if_true, if_false]) hL_0 hL_1 hL_2 hL_3 hLp_0 hLp_1 hLp_2 hLp_3 hLp_4 hLp_5 
            refine g_iload_n hC dX1_attached_25 2 rfl 26 rfl ?_
            refine g_aload hC dX1_attached_26 0 rfl gRef_r 28 rfl ?_
            refine g_getN (v := .ref (gph G x2.ph)) hC cI2 hO_z6 1 (Nat.le_of_ble_eq_true rfl) q370 rfl dX1_attached_28 31 rfl ?_
            refine g_phase hC 0 (by decide) rfl q1133 dX1_attached_31 34 rfl ?_
            refine g_acmp_ne (rx := some (gph G x2.ph)) (ry := some (gph G 0)) hC dX1_attached_34 41 rfl 37 rfl (fun c_11 => ?_) (fun c_11 => ?_)
            · replace c_11 : ¬ x2.ph = 0 := gph_n hC c_11
              refine g_iconst hC dX1_attached_41 ki_1 42 rfl ?_
              exact join42 1 (by simp only [eq_false c_11, if_true, if_false]) hL_0 hL_1 hL_2 hL_3 hLp_0 hLp_1 hLp_2 hLp_3 hLp_4 hLp_5 
            · replace c_11 : x2.ph = 0 := gph_e hC (by omega) (by omega) c_11
              refine g_iconst hC dX1_attached_37 ki_0 38 rfl ?_
              refine g_goto hC dX1_attached_38 42 rfl ?_
              exact join42 0 (by simp only [eq_true c_11, if_true, if_false]) hL_0 hL_1 hL_2 hL_3 hLp_0 hLp_1 hLp_2 hLp_3 hLp_4 hLp_5 
        refine g_iload_n hC dX1_attached_25 2 rfl 26 rfl ?_
        refine g_aload hC dX1_attached_26 0 rfl gRef_r 28 rfl ?_
        refine g_getN (v := .ref (gph G x1.ph)) hC cI2 hO_z4 1 (Nat.le_of_ble_eq_true rfl) q370 rfl dX1_attached_28 31 rfl ?_
        refine g_phase hC 0 (by decide) rfl q1133 dX1_attached_31 34 rfl ?_
        refine g_acmp_ne (rx := some (gph G x1.ph)) (ry := some (gph G 0)) hC dX1_attached_34 41 rfl 37 rfl (fun c_12 => ?_) (fun c_12 => ?_)
        · replace c_12 : ¬ x1.ph = 0 := gph_n hC c_12
          refine g_iconst hC dX1_attached_41 ki_1 42 rfl ?_
          exact join42 1 (by simp only [eq_false c_12, if_true, if_false]) hL_0 hL_1 hL_2 hL_3 hLp_0 hLp_1 hLp_2 hLp_3 hLp_4 hLp_5 
        · replace c_12 : x1.ph = 0 := gph_e hC (by omega) (by omega) c_12
          refine g_iconst hC dX1_attached_37 ki_0 38 rfl ?_
          refine g_goto hC dX1_attached_38 42 rfl ?_
          exact join42 0 (by simp only [eq_true c_12, if_true, if_false]) hL_0 hL_1 hL_2 hL_3 hLp_0 hLp_1 hLp_2 hLp_3 hLp_4 hLp_5 
    refine g_iload_n hC dX1_attached_25 4 rfl 26 rfl ?_
    refine g_aload hC dX1_attached_26 0 rfl gRef_r 28 rfl ?_
    refine g_getN (v := .ref (gph G x0.ph)) hC cI2 hO_z2 1 (Nat.le_of_ble_eq_true rfl) q370 rfl dX1_attached_28 31 rfl ?_
    refine g_phase hC 0 (by decide) rfl q1133 dX1_attached_31 34 rfl ?_
    refine g_acmp_ne (rx := some (gph G x0.ph)) (ry := some (gph G 0)) hC dX1_attached_34 41 rfl 37 rfl (fun c_13 => ?_) (fun c_13 => ?_)
    · replace c_13 : ¬ x0.ph = 0 := gph_n hC c_13
      refine g_iconst hC dX1_attached_41 ki_1 42 rfl ?_
      exact join42 1 (by simp only [eq_false c_13, if_true, if_false]) hM_0 hM_1 hM_2 hM_3 hP_0 hP_1 hP_2 hP_3 hP_4 hP_5 
    · replace c_13 : x0.ph = 0 := gph_e hC (by omega) (by omega) c_13
      refine g_iconst hC dX1_attached_37 ki_0 38 rfl ?_
      refine g_goto hC dX1_attached_38 42 rfl ?_
      exact join42 0 (by simp only [eq_true c_13, if_true, if_false]) hM_0 hM_1 hM_2 hM_3 hP_0 hP_1 hP_2 hP_3 hP_4 hP_5 
theorem ph0_eq {f : Nat → Int32} {k q : Nat} {x : NS} (h : relN f k q x) : (if x.ph = 0 then (0 : Int32) else 1) = if f (256 * k) = 0 then 0 else 1 := by
  obtain ⟨V, h⟩ := h
  have hP := h.2.2.1
  have h10 := hP.1.2
  have e0 : (nI x.ph = 0) ↔ x.ph = 0 := nI_eq (b := 0) (by omega) (by decide)
  rw [hP.1.1]
  by_cases z : x.ph = 0
  · rw [if_pos z, if_pos (e0.mpr z)]
  · rw [if_neg z, if_neg (fun w => z (e0.mp w))]
set_option maxHeartbeats 4000000 in
theorem met_B_attached (l : Launch) (G : gG) (M : gM) (ta : Nat) (of : Nat) (f : Nat → Int32) (q : Nat) (hta : 2 ≤ ta ∧ ta < 9)  (hP_0 : busR M G ta of f q) : Met l yX1_attached (ws_ yX1_attached cX1_attached 6 (some .int)) ({ frames := 0, cells := 0, slots := 0, locals := 0 }) (gPc G [.ref of] M) (gQi G (fun r9 M9 k9 => r9 = (atT f 4) ∧ M9 = M ∧ k9 = 0)) 0 0 (gA G) := by
  obtain ⟨x0, x1, x2, x3, D, hs, tn, pl, ol, rv, ⟨bn, bd, bh, n0, n1, n2, n3, mc, b0, b1, b2, b3, l1, l2, z0, z1, z2, z3⟩, hR⟩ := hP_0
  obtain ⟨r0, r1, r2, r3⟩ := hR.1
  have h := met_B_attached0 l G M of ta bn bd bh tn pl ol rv n0 n1 n2 n3 x0 x1 x2 x3 D mc hs hta r0.ph.2 r1.ph.2 r2.ph.2 r3.ph.2 b0 b1 b2 b3 l1 l2 z0 z1 z2 z3
  rw [ph0_eq r0, ph0_eq r1, ph0_eq r2, ph0_eq r3] at h
  exact h
theorem busR.cls {M : gM} {G : gG} {s : State} {ta of : Nat} {f : Nat → Int32} {q : Nat} (hK : gK G s) (h : busR M G ta of f q) : gOf G s M "ArbitratedBus$Bus" of := by
  obtain ⟨x0, x1, x2, x3, D, hs, tn, pl, ol, rv, ⟨bn, bd, bh, n0, n1, n2, n3, mc, b0, -⟩, -⟩ := h
  exact gOf.of hK cI1 b0
set_option maxHeartbeats 4000000 in
theorem met_B_run (l : Launch) (G : gG) (M : gM) (ta : Nat) (of : Nat) (f : Nat → Int32) (q : Nat) (n : Nat) (hta : 2 ≤ ta ∧ ta < 9) (hq : q < 800000) (hn1 : 1 ≤ n) (hn2 : n ≤ 200)  (hP_0 : busR M G ta of f q) : Met l yX1_run (ws_ yX1_run cX1_run 4 (some .int)) ({ frames := 12, cells := 1820, slots := 12200, locals := 300 }) (gPc G [.ref of, .int (nI n)] M) (gQi G (fun r9 M9 k9 => r9 = ((((T_bits f n 14 + T_bits f n 270) + T_bits f n 526) + T_bits f n 782) - (((f 14 + f 270) + f 526) + f 782)) ∧ busR M9 G ta of (T_bits f n) (q + n) ∧ gFr (gT (fun t => t.1 = ta ∨ t.1 = 9)) M M9 ∧ k9 ≤ 1804)) 1820 12200 (gA G) := by
  refine gMet [(0, .ref of), (1, .int (nI n))] (by decide) (Nat.le_of_ble_eq_true rfl) rfl ?_
  intro p e s m below meth c hC
  refine g_aload_n hC dX1_run_0 0 rfl gRef_r 1 rfl ?_
  refine g_calliP (g_V (As := []) (rest := []) hC mvX1_sent q1810 (busR.cls hC.K hP_0) (met_B_sent l G M ta of f q hta hP_0) ⟨rfl, rfl⟩ ⟨(Nat.le_of_ble_eq_true rfl), (Nat.le_of_ble_eq_true rfl)⟩ rfl (Nat.le_of_ble_eq_true rfl) dX1_run_1 rfl ⟨(Nat.le_of_ble_eq_true rfl), (Nat.le_of_ble_eq_true rfl)⟩) 4 rfl 0 (Nat.le_of_ble_eq_true rfl) ?_
  refine g_istore_n hC dX1_run_4 rfl (Nat.le_of_ble_eq_true rfl) [(2, .int (((f 14 + f 270) + f 526) + f 782)), (0, .ref of), (1, .int (nI n))] rfl 5 rfl ?_
  have hB1 : busR M G ta of (T_bits f 0) (q + 0) := hP_0
  refine g_iconst hC dX1_run_5 ki_0 6 rfl ?_
  refine g_istore_n hC dX1_run_6 rfl (Nat.le_of_ble_eq_true rfl) [(3, .int 0), (2, .int (((f 14 + f 270) + f 526) + f 782)), (0, .ref of), (1, .int (nI n))] rfl 7 rfl ?_
  have loop7 : ∀ (n9 : Nat) (i : Nat) (cc : Nat) (ML : gM), (hi : i ≤ n) → (hcc : cc + crdF (T_bits f i) ≤ 9 * i + crdF f) → (hc4 : crdF f ≤ 4) → n - i < n9 → (busR ML G ta of (T_bits f i) (q + i)) → gFr (gT (fun t => t.1 = ta ∨ t.1 = 9)) M ML → gJ p l e ({ frames := 12, cells := 1820, slots := 12200, locals := 300 } : Room) s m ([.ref of, .int (nI n)] : List Value).toArray below meth c G 4 (MQ below (gQi G (fun r9 M9 k9 => r9 = ((((T_bits f n 14 + T_bits f n 270) + T_bits f n 526) + T_bits f n 782) - (((f 14 + f 270) + f 526) + f 782)) ∧ busR M9 G ta of (T_bits f n) (q + n) ∧ gFr (gT (fun t => t.1 = ta ∨ t.1 = 9)) M M9 ∧ k9 ≤ 1804)) ([.ref of, .int (nI n)] : List Value).toArray s 1820 12200 (gA G)) cc (61 * i) ML 7 [(0, .ref of), (1, .int (nI n)), (2, .int (((f 14 + f 270) + f 526) + f 782)), (3, .int (nI i))] [] := by
    intro n9
    induction n9 with
    | zero => intro i cc ML hi hcc hc4 hmu; exact absurd hmu (Nat.not_lt_zero _)
    | succ n9 ih =>
      intro i cc ML hi hcc hc4 hmu  hLp_0 hLF
      refine g_iload_n hC dX1_run_7 3 rfl 8 rfl ?_
      refine g_iload_n hC dX1_run_8 1 rfl 9 rfl ?_
      refine g_icmp_ge hC dX1_run_9 22 rfl 12 rfl (fun c_2 => ?_) (fun c_2 => ?_)
      · replace c_2 : n ≤ i := nn_le (by omega) (by omega) c_2
        have hin : i = n := by omega
        refine g_aload_n hC dX1_run_22 0 rfl gRef_r 23 rfl ?_
        refine g_calliP (g_V (As := []) (rest := []) hC mvX1_sent q1810 (busR.cls hC.K hLp_0) (met_B_sent l G ML ta of (T_bits f i) (q + i) hta hLp_0) ⟨rfl, rfl⟩ ⟨(Nat.le_of_ble_eq_true rfl), (Nat.le_of_ble_eq_true rfl)⟩ rfl (Nat.le_of_ble_eq_true rfl) dX1_run_23 rfl ⟨(by first | omega | (dsimp only; omega)), (by first | omega | (dsimp only; omega))⟩) 26 rfl (61 * i) (by first | omega | (dsimp only; omega)) ?_
        refine g_iload_n hC dX1_run_26 2 rfl 27 rfl ?_
        refine g_isub hC dX1_run_27 28 rfl ?_
        exact g_iret (v := ((((T_bits f i) 14 + (T_bits f i) 270) + (T_bits f i) 526) + (T_bits f i) 782) - (((f 14 + f 270) + f 526) + f 782)) hC (fun k9 hk9 => ⟨(by rw [hin]), (hin ▸ hLp_0), hLF, (by first | exact Nat.le_zero.mp hk9 | omega)⟩) dX1_run_28 (by first | omega | (dsimp only; omega)) (by first | omega | (dsimp only; omega))
      · replace c_2 : i < n := nn_nle (by omega) (by omega) c_2
        refine g_aload_n hC dX1_run_12 0 rfl gRef_r 13 rfl ?_
        refine g_callvA (g_V (As := []) (rest := []) hC mvX1_step q1814 (busR.cls hC.K hLp_0) (met_B_step l G ML ta of (T_bits f i) (q + i) hta (by omega) hLp_0) ⟨rfl, rfl⟩ ⟨(Nat.le_of_ble_eq_true rfl), (Nat.le_of_ble_eq_true rfl)⟩ rfl (Nat.le_of_ble_eq_true rfl) dX1_run_13 rfl ⟨(by first | omega | (dsimp only; omega)), (by first | omega | (dsimp only; omega))⟩) 16 rfl (fun M3 k4 hp5 => ?_)
        obtain ⟨hpd7, hF8, hq9, hk10⟩ := hp5
        have hB11 : busR M3 G ta of (T_bits f (i + 1)) (q + (i + 1)) := hpd7
        refine g_iinc hC dX1_run_16 3 rfl (v := nI (i + 1)) (by rw [ki_1]; exact nI_a (a := i) (b := 1) (c := (i + 1)) (by omega)) (Nat.le_of_ble_eq_true rfl) [(3, .int (nI (i + 1))), (0, .ref of), (1, .int (nI n)), (2, .int (((f 14 + f 270) + f 526) + f 782))] rfl 19 rfl ?_
        refine g_goto hC dX1_run_19 7 rfl ?_
        refine gJ.sub (M' := M3) [1, 2, 3, 0] rfl ?_
        refine gJ.widen (k := cc + k4) (n := 61 * (i + 1)) (by first | omega | (dsimp only; omega)) (by first | omega | (dsimp only; omega)) ?_
        exact ih (i + 1) (cc + k4) M3 (by omega) (show cc + k4 + crdF (T_bit (T_bits f i)) ≤ 9 * (i + 1) + crdF f by omega) hc4 (by omega) hB11 (hLF.trans (gFr.refl.trans (hF8.mono (fun b t h => by obtain ⟨u9, v9⟩ := t; revert h; (try simp only [ndT, tgE, gT, tgR, ndT9, ndW, tg0, Prod.mk.injEq, true_and, and_true, cpyT]); first | done | omega | (simp; done) | (intro h; simp_all; done)))))
  refine gJ.sub (M' := M) [2, 3, 1, 0] rfl ?_
  refine gJ.widen (k := 0) (n := 61 * 0) (by first | omega | (dsimp only; omega)) (by first | omega | (dsimp only; omega)) ?_
  exact loop7 _ 0 0 M (by omega) (by show 0 + crdF f ≤ 9 * 0 + crdF f; omega) crdF_le (Nat.lt_succ_self _) hB1 gFr.refl
