/-! the public methods: messages -/
set_option maxRecDepth 100000
def msR (M : gM) (G : gG) (ms : Nat) (g : Nat → Int32) (mc : Nat) : Prop := ∃ an C md, M ms = some ((8, 2), .inr (6, [.ref an])) ∧ isTM M G (8, 3) (8, 4) an C ∧ mss M C md ∧ rM g mc C md
def msT (t : Nat × Nat) : Prop := tgE 8 2 t ∨ tgE 8 3 t ∨ tgE 8 4 t ∨ tg0 t
theorem msR.fr {M M' : gM} {G : gG} {ms mc : Nat} {g : Nat → Int32} (h : msR M G ms g mc) (hF : gFr (gT (fun t => ¬ msT t)) M M') : msR M' G ms g mc := by
  obtain ⟨an, C, md, h1, h2, h3, h4⟩ := h
  refine ⟨an, C, md, hF _ _ _ h1 (fun q => q (Or.inl ⟨rfl, rfl⟩)), h2.fr (hF.mono (fun _ t q z => q ?_)), h3.fr (hF.mono (fun _ t q z => q (Or.inr (Or.inr (Or.inr z.1))))), h4⟩
  rcases z with z | z | z
  · exact Or.inr (Or.inl z)
  · exact Or.inr (Or.inr (Or.inl z))
  · exact Or.inr (Or.inr (Or.inr z))
theorem rM.mo {g : Nat → Int32} {mc : Nat} {C : List (Int32 × Nat)} {md : Nat → mE} (h : rM g mc C md) : mOk C md := ⟨h.2.2.2.1, by have := h.len; have := h.1; omega, h.2.2.2.2.1, h.ok⟩
theorem rM.rsp {g : Nat → Int32} {mc ai : Nat} {C : List (Int32 × Nat)} {md : Nat → mE} (h : rM g mc C md) : rspE (C.map (fun e => md e.2)) (dE (evC g) ai) = rspT (evC g) mc ai := by rw [rspT_D, rspE_perm h.perm]
theorem rM.mis {g : Nat → Int32} {mc : Nat} {C : List (Int32 × Nat)} {md : Nat → mE} (h : rM g mc C md) : misL (C.map (fun e => md e.2)) (C.map (fun e => md e.2)) = missT (evC g) mc mc := by rw [missT_D, misL_E h.perm, misL_perm h.perm]
set_option maxHeartbeats 4000000 in
theorem met_X_responseTime_n (l : Launch) (G : gG) (M : gM) (xa : Nat) (sv : Nat) (ms : Nat) (tx : Nat) (le : Int32) (of : Nat) (g : Nat → Int32) (mc : Nat) (x : Int32) (hno : ∀ i, i < mc → ¬ g (4 * i) = x) (hM_0 : M xa = some ((8, 0), .inr (0, [.ref of, .ref sv, .ref ms, .ref tx, .int le]))) (hP_0 : msR M G ms g mc) : Met l yX0_responseTime (ws_ yX0_responseTime cX0_responseTime 2 (some .int)) ({ frames := 6, cells := 1, slots := 1, locals := 135 }) (gPc G [.ref xa, .int x] M) (gQi G (fun r9 M9 k9 => r9 = (-2) ∧ gFr (gL []) M M9 ∧ k9 ≤ 1)) 1 1 (gA G) := by
  refine gMet [(0, .ref xa), (1, .int x)] (by decide) (Nat.le_of_ble_eq_true rfl) rfl ?_
  intro p e s m below meth c hC
  obtain ⟨an, C, md, hM_8, hP_8, hP_9, hR⟩ := id hP_0
  have hmo := hR.mo
  have hln := hR.len
  have htg := hR.none hno
  refine g_aload_n hC dX0_responseTime_0 0 rfl gRef_r 1 rfl ?_
  refine g_get (v := .ref ms) hC cI0 hM_0 2 (Nat.le_of_ble_eq_true rfl) q519 rfl dX0_responseTime_1 4 rfl ?_
  refine g_getN (v := .ref an) hC cI6 hM_8 0 (Nat.le_of_ble_eq_true rfl) q513 rfl dX0_responseTime_4 7 rfl ?_
  refine g_iload_n hC dX0_responseTime_7 1 rfl 8 rfl ?_
  refine g_callq (g_S (As := [.int x]) (rest := [.ref an]) hC msJ11_valueOf q570 (met_valueOf l G M x) ⟨rfl, rfl⟩ ⟨(Nat.le_of_ble_eq_true rfl), (Nat.le_of_ble_eq_true rfl)⟩ rfl (Nat.le_of_ble_eq_true rfl) dX0_responseTime_8 rfl ⟨(Nat.le_of_ble_eq_true rfl), (Nat.le_of_ble_eq_true rfl)⟩) 1 (Nat.le_of_ble_eq_true rfl) 1 (Nat.le_of_ble_eq_true rfl) 11 rfl (fun r4 M1 k2 hp3 => ?_)
  obtain ⟨a_5, rfl, hF6, hq7, hk8⟩ := hp3
  refine g_calliP (g_V (As := [.ref a_5]) (rest := []) hC mvJ9_containsKey q590 (isTM.of hC.K (isTM.fr hP_8 (gFr.refl.trf hF6 (fun b t e hb hn => gno0)))) (met_TMap_has l G M1 an (8, 3) (8, 4) C a_5 x (isTM.fr hP_8 (gFr.refl.trf hF6 (fun b t e hb hn => gno0))) hq7) ⟨rfl, rfl⟩ ⟨(Nat.le_of_ble_eq_true rfl), (Nat.le_of_ble_eq_true rfl)⟩ rfl (Nat.le_of_ble_eq_true rfl) dX0_responseTime_11 rfl ⟨(Nat.le_of_ble_eq_true rfl), (Nat.le_of_ble_eq_true rfl)⟩) 14 rfl 1 (Nat.le_of_ble_eq_true rfl) ?_
  refine g_if_eq hC dX0_responseTime_14 28 rfl 17 rfl (fun c_9 => ?_) (fun c_9 => ?_)
  · refine g_bipush hC dX0_responseTime_28 kb_m2 30 rfl ?_
    exact g_iret (v := -2) hC (fun k9 hk9 => ⟨rfl, (gFr.refl.trans (hF6.mono (by intro b t hb; exact absurd hb List.not_mem_nil))), (by first | exact Nat.le_zero.mp hk9 | omega)⟩) dX0_responseTime_30 (Nat.le_of_ble_eq_true rfl) (Nat.le_of_ble_eq_true rfl)
  · exact absurd c_9 (by rw [htg]; decide)
set_option maxHeartbeats 4000000 in
theorem met_X_responseTime (l : Launch) (G : gG) (M : gM) (xa : Nat) (sv : Nat) (ms : Nat) (tx : Nat) (le : Int32) (of : Nat) (g : Nat → Int32) (mc : Nat) (x : Int32) (ai : Nat) (hai : ai < mc) (hax : g (4 * ai) = x) (hM_0 : M xa = some ((8, 0), .inr (0, [.ref of, .ref sv, .ref ms, .ref tx, .int le]))) (hP_0 : msR M G ms g mc) : Met l yX0_responseTime (ws_ yX0_responseTime cX0_responseTime 2 (some .int)) ({ frames := 8, cells := 97, slots := 201, locals := 185 }) (gPc G [.ref xa, .int x] M) (gQi G (fun r9 M9 k9 => r9 = (rspT (evC g) mc ai) ∧ gFr (gL []) M M9 ∧ k9 ≤ 97)) 97 201 (gA G) := by
  refine gMet [(0, .ref xa), (1, .int x)] (by decide) (Nat.le_of_ble_eq_true rfl) rfl ?_
  intro p e s m below meth c hC
  obtain ⟨an, C, md, hM_8, hP_8, hP_9, hR⟩ := id hP_0
  have hmo := hR.mo
  have hln := hR.len
  obtain ⟨mm, htg, hmd⟩ := hR.some hai hax
  refine g_aload_n hC dX0_responseTime_0 0 rfl gRef_r 1 rfl ?_
  refine g_get (v := .ref ms) hC cI0 hM_0 2 (Nat.le_of_ble_eq_true rfl) q519 rfl dX0_responseTime_1 4 rfl ?_
  refine g_getN (v := .ref an) hC cI6 hM_8 0 (Nat.le_of_ble_eq_true rfl) q513 rfl dX0_responseTime_4 7 rfl ?_
  refine g_iload_n hC dX0_responseTime_7 1 rfl 8 rfl ?_
  refine g_callq (g_S (As := [.int x]) (rest := [.ref an]) hC msJ11_valueOf q570 (met_valueOf l G M x) ⟨rfl, rfl⟩ ⟨(Nat.le_of_ble_eq_true rfl), (Nat.le_of_ble_eq_true rfl)⟩ rfl (Nat.le_of_ble_eq_true rfl) dX0_responseTime_8 rfl ⟨(Nat.le_of_ble_eq_true rfl), (Nat.le_of_ble_eq_true rfl)⟩) 1 (Nat.le_of_ble_eq_true rfl) 1 (Nat.le_of_ble_eq_true rfl) 11 rfl (fun r4 M1 k2 hp3 => ?_)
  obtain ⟨a_5, rfl, hF6, hq7, hk8⟩ := hp3
  refine g_calliP (g_V (As := [.ref a_5]) (rest := []) hC mvJ9_containsKey q590 (isTM.of hC.K (isTM.fr hP_8 (gFr.refl.trf hF6 (fun b t e hb hn => gno0)))) (met_TMap_has l G M1 an (8, 3) (8, 4) C a_5 x (isTM.fr hP_8 (gFr.refl.trf hF6 (fun b t e hb hn => gno0))) hq7) ⟨rfl, rfl⟩ ⟨(Nat.le_of_ble_eq_true rfl), (Nat.le_of_ble_eq_true rfl)⟩ rfl (Nat.le_of_ble_eq_true rfl) dX0_responseTime_11 rfl ⟨(Nat.le_of_ble_eq_true rfl), (Nat.le_of_ble_eq_true rfl)⟩) 14 rfl 1 (Nat.le_of_ble_eq_true rfl) ?_
  refine g_if_eq hC dX0_responseTime_14 28 rfl 17 rfl (fun c_9 => ?_) (fun c_9 => ?_)
  · exact absurd c_9 (by rw [htg]; decide)
  · refine g_aload_n hC dX0_responseTime_17 0 rfl gRef_r 18 rfl ?_
    refine g_get (v := .ref ms) hC cI0 (hF6 _ _ _ hM_0 gno0) 2 (Nat.le_of_ble_eq_true rfl) q519 rfl dX0_responseTime_18 21 rfl ?_
    refine g_iload_n hC dX0_responseTime_21 1 rfl 22 rfl ?_
    refine g_topi (y := nI (evC g (4 * ai))) (by rw [← hax]; exact hR.2.2.1 _ (by omega)) ?_
    refine g_calli (g_V (As := [.int (nI (evC g (4 * ai)))]) (rest := []) hC mvX7_response q2656 (gOf.of hC.K cI6 (hF6 _ _ _ hM_8 gno0)) (met_Ms_response l G M1 ms an C md (evC g (4 * ai)) (evC g (4 * ai + 1)) (evC g (4 * ai + 2)) (evC g (4 * ai + 3)) mm (by first | assumption | decide | omega | (dsimp only; omega) | simp_all) (hR.2.1 ai hai).1 (by rw [← hR.2.2.1 _ (show 4 * ai < 4 * mc by omega), hax]; exact htg) hmd (hF6 _ _ _ hM_8 gno0) (isTM.fr hP_8 (gFr.refl.trf hF6 (fun b t e hb hn => gno0))) (mss.fr hP_9 (gFr.refl.trf hF6 (fun b t e hb hn => gno0)))) ⟨rfl, rfl⟩ ⟨(Nat.le_of_ble_eq_true rfl), (Nat.le_of_ble_eq_true rfl)⟩ rfl (Nat.le_of_ble_eq_true rfl) dX0_responseTime_22 rfl ⟨(Nat.le_of_ble_eq_true rfl), (Nat.le_of_ble_eq_true rfl)⟩) 97 (Nat.le_of_ble_eq_true rfl) 201 (Nat.le_of_ble_eq_true rfl) 25 rfl (fun r13 M10 k11 hp12 => ?_)
    obtain ⟨rfl, hF14, hk15⟩ := hp12
    refine g_goto hC dX0_responseTime_25 30 rfl ?_
    exact g_iret (v := rspE (C.map (fun e => md e.2)) ((evC g (4 * ai)), (evC g (4 * ai + 1)), (evC g (4 * ai + 2)), (evC g (4 * ai + 3)))) hC (fun k9 hk9 => ⟨hR.rsp, ((gFr.refl.trans (hF6.mono (by intro b t hb; exact absurd hb List.not_mem_nil))).trans (hF14.mono (by intro b t hb; exact absurd hb List.not_mem_nil))), (by first | exact Nat.le_zero.mp hk9 | omega)⟩) dX0_responseTime_30 (Nat.le_of_ble_eq_true rfl) (Nat.le_of_ble_eq_true rfl)
theorem mss.rem {M : gM} {C : List (Int32 × Nat)} {md : Nat → mE} {x : Int32} (h : mss M C md) : mss M (trem C x) md := fun e he => h e (trem_mem.mp he).1
theorem mss.put {M : gM} {C : List (Int32 × Nat)} {md : Nat → mE} {x : Int32} {a : Nat} {d : mE} (h : mss M C md) (hs : srtC C) (hf : ∀ e ∈ C, e.2 ≠ a) (ha : M a = some ((0, 4), .inr (13, [.int (nI (wN d.2.1)), .int (nI d.2.2.1), .int (nI d.2.2.2)]))) : mss M (tput C x a) (mdU md a d) := fun e he => by
  rcases (tput_mem C hs).mp he with q | ⟨q, -⟩
  · subst q
    show M a = some ((0, 4), .inr (13, [.int (nI (wN (mdU md a d a).2.1)), .int (nI (mdU md a d a).2.2.1), .int (nI (mdU md a d a).2.2.2)]))
    rw [show mdU md a d a = d from if_pos rfl]; exact ha
  · rw [show mdU md a d e.2 = md e.2 from if_neg (hf e q)]; exact h e q
theorem okP.mk {x ln pe ji : Nat} (h1 : x ≤ 2047) (h2 : ln ≤ 4) (h3 : 1 ≤ pe ∧ pe ≤ 5000) (h4 : ji ≤ 500) : okP (nI x) (nI ln) (nI pe) (nI ji) :=
  ⟨⟨⟨nI_pos' (by omega), (nI_leI (a := x) (b := 2047) (by omega) (by omega)).mpr h1⟩, nI_pos' (by omega), (nI_leI (a := ln) (b := 4) (by omega) (by omega)).mpr h2⟩, ⟨(nI_leI (a := 1) (b := pe) (by omega) (by omega)).mpr h3.1, (nI_leI (a := pe) (b := 5000) (by omega) (by omega)).mpr h3.2⟩, nI_pos' (by omega), (nI_leI (a := ji) (b := 500) (by omega) (by omega)).mpr h4⟩
set_option maxHeartbeats 4000000 in
theorem met_X_misses (l : Launch) (G : gG) (M : gM) (xa : Nat) (sv : Nat) (ms : Nat) (tx : Nat) (le : Int32) (of : Nat) (g : Nat → Int32) (mc : Nat)  (hM_0 : M xa = some ((8, 0), .inr (0, [.ref of, .ref sv, .ref ms, .ref tx, .int le]))) (hP_0 : msR M G ms g mc) : Met l yX0_misses (ws_ yX0_misses cX0_misses 1 (some .int)) ({ frames := 9, cells := 790, slots := 1700, locals := 208 }) (gPc G [.ref xa] M) (gQi G (fun r9 M9 k9 => r9 = (nI (missT (evC g) mc mc)) ∧ msR M9 G ms g mc ∧ gFr (gT (fun t => tgE 8 3 t ∨ tgE 8 4 t ∨ t.1 = 9)) M M9 ∧ k9 ≤ 790)) 790 1700 (gA G) := by
  refine gMet [(0, .ref xa)] (by decide) (Nat.le_of_ble_eq_true rfl) rfl ?_
  intro p e s m below meth c hC
  obtain ⟨an, C, md, hM_8, hP_8, hP_9, hR⟩ := id hP_0
  have hmo := hR.mo
  have hln := hR.len
  refine g_aload_n hC dX0_misses_0 0 rfl gRef_r 1 rfl ?_
  refine g_get (v := .ref ms) hC cI0 hM_0 2 (Nat.le_of_ble_eq_true rfl) q519 rfl dX0_misses_1 4 rfl ?_
  refine g_calli (g_V (As := []) (rest := []) hC mvX7_misses q2700 (gOf.of hC.K cI6 hM_8) (met_Ms_misses l G M ms an C md hmo hM_8 hP_8 hP_9) ⟨rfl, rfl⟩ ⟨(Nat.le_of_ble_eq_true rfl), (Nat.le_of_ble_eq_true rfl)⟩ rfl (Nat.le_of_ble_eq_true rfl) dX0_misses_4 rfl ⟨(Nat.le_of_ble_eq_true rfl), (Nat.le_of_ble_eq_true rfl)⟩) 790 (Nat.le_of_ble_eq_true rfl) 1700 (Nat.le_of_ble_eq_true rfl) 7 rfl (fun r4 M1 k2 hp3 => ?_)
  obtain ⟨rfl, hpd5, hF6, hk7⟩ := hp3
  exact g_iret (v := nI (misL (C.map (fun e => md e.2)) (C.map (fun e => md e.2)))) hC (fun k9 hk9 => ⟨(by rw [hR.mis]), ⟨an, C, md, (hF6 _ _ _ hM_8 (show ¬ (fun t => tgE 8 3 t ∨ tgE 9 1 t) (8, 2) by (try simp only [ndT, tgE, gT, tgR, ndT9, ndW, tg0, Prod.mk.injEq, true_and, and_true, cpyT, msT]); first | done | omega | (simp; done) | simp_all)), hpd5, (mss.fr hP_9 (gFr.refl.trans (hF6.mono (fun b t h => by obtain ⟨u9, v9⟩ := t; revert h; (try simp only [ndT, tgE, gT, tgR, ndT9, ndW, tg0, Prod.mk.injEq, true_and, and_true, cpyT, msT]); first | done | omega | (simp; done) | (intro h; simp_all; done))))), hR⟩, (gFr.refl.trans (hF6.mono (fun b t h => by obtain ⟨u9, v9⟩ := t; revert h; (try simp only [ndT, tgE, gT, tgR, ndT9, ndW, tg0, Prod.mk.injEq, true_and, and_true, cpyT, msT]); first | done | omega | (simp; done) | (intro h; simp_all; done)))), (by first | exact Nat.le_zero.mp hk9 | omega)⟩) dX0_misses_7 (Nat.le_of_ble_eq_true rfl) (Nat.le_of_ble_eq_true rfl)
set_option maxHeartbeats 4000000 in
theorem met_X_removeMessage_n (l : Launch) (G : gG) (M : gM) (xa : Nat) (sv : Nat) (ms : Nat) (tx : Nat) (le : Int32) (of : Nat) (g : Nat → Int32) (mc : Nat) (x : Int32) (hno : ∀ i, i < mc → ¬ g (4 * i) = x) (hM_0 : M xa = some ((8, 0), .inr (0, [.ref of, .ref sv, .ref ms, .ref tx, .int le]))) (hP_0 : msR M G ms g mc) : Met l yX0_removeMessage (ws_ yX0_removeMessage cX0_removeMessage 2 (some .int)) ({ frames := 6, cells := 1, slots := 1, locals := 137 }) (gPc G [.ref xa, .int x] M) (gQi G (fun r9 M9 k9 => r9 = (-5) ∧ msR M9 G ms g mc ∧ gFr (gT (fun t => tgE 8 3 t ∨ tgE 8 4 t ∨ t.1 = 9)) M M9 ∧ k9 ≤ 1)) 1 1 (gA G) := by
  refine gMet [(0, .ref xa), (1, .int x)] (by decide) (Nat.le_of_ble_eq_true rfl) rfl ?_
  intro p e s m below meth c hC
  obtain ⟨an, C, md, hM_8, hP_8, hP_9, hR⟩ := id hP_0
  have hmo := hR.mo
  have hln := hR.len
  have htg := hR.none hno
  refine g_aload_n hC dX0_removeMessage_0 0 rfl gRef_r 1 rfl ?_
  refine g_get (v := .ref ms) hC cI0 hM_0 2 (Nat.le_of_ble_eq_true rfl) q519 rfl dX0_removeMessage_1 4 rfl ?_
  refine g_getN (v := .ref an) hC cI6 hM_8 0 (Nat.le_of_ble_eq_true rfl) q513 rfl dX0_removeMessage_4 7 rfl ?_
  refine g_iload_n hC dX0_removeMessage_7 1 rfl 8 rfl ?_
  refine g_callq (g_S (As := [.int x]) (rest := [.ref an]) hC msJ11_valueOf q570 (met_valueOf l G M x) ⟨rfl, rfl⟩ ⟨(Nat.le_of_ble_eq_true rfl), (Nat.le_of_ble_eq_true rfl)⟩ rfl (Nat.le_of_ble_eq_true rfl) dX0_removeMessage_8 rfl ⟨(Nat.le_of_ble_eq_true rfl), (Nat.le_of_ble_eq_true rfl)⟩) 1 (Nat.le_of_ble_eq_true rfl) 1 (Nat.le_of_ble_eq_true rfl) 11 rfl (fun r4 M1 k2 hp3 => ?_)
  obtain ⟨a_5, rfl, hF6, hq7, hk8⟩ := hp3
  refine g_callq (g_V (As := [.ref a_5]) (rest := []) hC mvJ9_remove q1083 (isTM.of hC.K (isTM.fr hP_8 (gFr.refl.trf hF6 (fun b t e hb hn => gno0)))) (met_TMap_remove l G M1 an (8, 3) (8, 4) C a_5 x (by decide) (by decide) (by decide) (isTM.fr hP_8 (gFr.refl.trf hF6 (fun b t e hb hn => gno0))) hq7) ⟨rfl, rfl⟩ ⟨(Nat.le_of_ble_eq_true rfl), (Nat.le_of_ble_eq_true rfl)⟩ rfl (Nat.le_of_ble_eq_true rfl) dX0_removeMessage_11 rfl ⟨(Nat.le_of_ble_eq_true rfl), (Nat.le_of_ble_eq_true rfl)⟩) 1 (Nat.le_of_ble_eq_true rfl) 1 (Nat.le_of_ble_eq_true rfl) 14 rfl (fun r12 M9 k10 hp11 => ?_)
  obtain ⟨rfl, hpd13, hF14, hk15⟩ := hp11
  refine g_ifnonnull hC dX0_removeMessage_14 22 rfl 17 rfl (fun x_16 e_17 => ?_) (fun e_17 => ?_)
  · refine g_aload_n hC dX0_removeMessage_22 0 rfl gRef_r 23 rfl ?_
    refine g_get (v := .ref ms) hC cI0 (hF14 _ _ _ (hF6 _ _ _ hM_0 gno0) (show ¬ (fun t => tgE (8, 3).1 (8, 3).2 t ∨ tgE (8, 4).1 (8, 4).2 t) (8, 0) by (try simp only [ndT, tgE, gT, tgR, ndT9, ndW, tg0, Prod.mk.injEq, true_and, and_true, cpyT, msT]); first | done | omega | (simp; done) | simp_all)) 2 (Nat.le_of_ble_eq_true rfl) q519 rfl dX0_removeMessage_23 26 rfl ?_
    refine g_getN (v := .ref an) hC cI6 (hF14 _ _ _ (hF6 _ _ _ hM_8 gno0) (show ¬ (fun t => tgE (8, 3).1 (8, 3).2 t ∨ tgE (8, 4).1 (8, 4).2 t) (8, 2) by (try simp only [ndT, tgE, gT, tgR, ndT9, ndW, tg0, Prod.mk.injEq, true_and, and_true, cpyT, msT]); first | done | omega | (simp; done) | simp_all)) 0 (Nat.le_of_ble_eq_true rfl) q513 rfl dX0_removeMessage_26 29 rfl ?_
    refine g_calliP (g_V (As := []) (rest := []) hC mvJ9_size q566 (isTM.of hC.K hpd13) (met_TMap_size l G M9 an (8, 3) (8, 4) (trem C x) hpd13) ⟨rfl, rfl⟩ ⟨(Nat.le_of_ble_eq_true rfl), (Nat.le_of_ble_eq_true rfl)⟩ rfl (Nat.le_of_ble_eq_true rfl) dX0_removeMessage_29 rfl ⟨(Nat.le_of_ble_eq_true rfl), (Nat.le_of_ble_eq_true rfl)⟩) 32 rfl 1 (Nat.le_of_ble_eq_true rfl) ?_
    refine g_topi (y := nI ((trem C x).length)) (congrArg nI (show (trem C x).length = (trem C x).length by omega)) ?_
    exact g_iret (v := nI ((trem C x).length)) hC (fun k9 hk9 => ⟨(absurd (htg.symm.trans e_17) (by simp)), (absurd (htg.symm.trans e_17) (by simp)), ((gFr.refl.trf hF6 (fun b t e hb hn => gno0)).trans (hF14.mono (fun b t h => by obtain ⟨u9, v9⟩ := t; revert h; (try simp only [ndT, tgE, gT, tgR, ndT9, ndW, tg0, Prod.mk.injEq, true_and, and_true, cpyT, msT]); first | done | omega | (simp; done) | (intro h; simp_all; done)))), (by first | exact Nat.le_zero.mp hk9 | omega)⟩) dX0_removeMessage_32 (Nat.le_of_ble_eq_true rfl) (Nat.le_of_ble_eq_true rfl)
  · refine g_bipush hC dX0_removeMessage_17 kb_m5 19 rfl ?_
    refine g_goto hC dX0_removeMessage_19 32 rfl ?_
    exact g_iret (v := -5) hC (fun k9 hk9 => ⟨rfl, ⟨an, trem C x, md, (hF14 _ _ _ (hF6 _ _ _ hM_8 gno0) (show ¬ (fun t => tgE (8, 3).1 (8, 3).2 t ∨ tgE (8, 4).1 (8, 4).2 t) (8, 2) by (try simp only [ndT, tgE, gT, tgR, ndT9, ndW, tg0, Prod.mk.injEq, true_and, and_true, cpyT, msT]); first | done | omega | (simp; done) | simp_all)), hpd13, (mss.rem (mss.fr hP_9 ((gFr.refl.trf hF6 (fun b t e hb hn => gno0)).trans (hF14.mono (fun b t h => by obtain ⟨u9, v9⟩ := t; revert h; (try simp only [ndT, tgE, gT, tgR, ndT9, ndW, tg0, Prod.mk.injEq, true_and, and_true, cpyT, msT]); first | done | omega | (simp; done) | (intro h; simp_all; done)))))), (by rw [trem_no (tget_none htg)]; exact hR)⟩, ((gFr.refl.trf hF6 (fun b t e hb hn => gno0)).trans (hF14.mono (fun b t h => by obtain ⟨u9, v9⟩ := t; revert h; (try simp only [ndT, tgE, gT, tgR, ndT9, ndW, tg0, Prod.mk.injEq, true_and, and_true, cpyT, msT]); first | done | omega | (simp; done) | (intro h; simp_all; done)))), (by first | exact Nat.le_zero.mp hk9 | omega)⟩) dX0_removeMessage_32 (Nat.le_of_ble_eq_true rfl) (Nat.le_of_ble_eq_true rfl)
set_option maxHeartbeats 4000000 in
theorem met_X_removeMessage (l : Launch) (G : gG) (M : gM) (xa : Nat) (sv : Nat) (ms : Nat) (tx : Nat) (le : Int32) (of : Nat) (g : Nat → Int32) (mc : Nat) (x : Int32) (ai : Nat) (hai : ai < mc) (hax : g (4 * ai) = x) (hM_0 : M xa = some ((8, 0), .inr (0, [.ref of, .ref sv, .ref ms, .ref tx, .int le]))) (hP_0 : msR M G ms g mc) : Met l yX0_removeMessage (ws_ yX0_removeMessage cX0_removeMessage 2 (some .int)) ({ frames := 6, cells := 1, slots := 1, locals := 137 }) (gPc G [.ref xa, .int x] M) (gQi G (fun r9 M9 k9 => r9 = (nI (mc - 1)) ∧ msR M9 G ms (cpT g 4 (4 * ai) (4 * (mc - 1) - 4 * ai)) (mc - 1) ∧ gFr (gT (fun t => tgE 8 3 t ∨ tgE 8 4 t ∨ t.1 = 9)) M M9 ∧ k9 ≤ 1)) 1 1 (gA G) := by
  refine gMet [(0, .ref xa), (1, .int x)] (by decide) (Nat.le_of_ble_eq_true rfl) rfl ?_
  intro p e s m below meth c hC
  obtain ⟨an, C, md, hM_8, hP_8, hP_9, hR⟩ := id hP_0
  have hmo := hR.mo
  have hln := hR.len
  obtain ⟨mm, htg, hmd⟩ := hR.some hai hax
  refine g_aload_n hC dX0_removeMessage_0 0 rfl gRef_r 1 rfl ?_
  refine g_get (v := .ref ms) hC cI0 hM_0 2 (Nat.le_of_ble_eq_true rfl) q519 rfl dX0_removeMessage_1 4 rfl ?_
  refine g_getN (v := .ref an) hC cI6 hM_8 0 (Nat.le_of_ble_eq_true rfl) q513 rfl dX0_removeMessage_4 7 rfl ?_
  refine g_iload_n hC dX0_removeMessage_7 1 rfl 8 rfl ?_
  refine g_callq (g_S (As := [.int x]) (rest := [.ref an]) hC msJ11_valueOf q570 (met_valueOf l G M x) ⟨rfl, rfl⟩ ⟨(Nat.le_of_ble_eq_true rfl), (Nat.le_of_ble_eq_true rfl)⟩ rfl (Nat.le_of_ble_eq_true rfl) dX0_removeMessage_8 rfl ⟨(Nat.le_of_ble_eq_true rfl), (Nat.le_of_ble_eq_true rfl)⟩) 1 (Nat.le_of_ble_eq_true rfl) 1 (Nat.le_of_ble_eq_true rfl) 11 rfl (fun r4 M1 k2 hp3 => ?_)
  obtain ⟨a_5, rfl, hF6, hq7, hk8⟩ := hp3
  refine g_callq (g_V (As := [.ref a_5]) (rest := []) hC mvJ9_remove q1083 (isTM.of hC.K (isTM.fr hP_8 (gFr.refl.trf hF6 (fun b t e hb hn => gno0)))) (met_TMap_remove l G M1 an (8, 3) (8, 4) C a_5 x (by decide) (by decide) (by decide) (isTM.fr hP_8 (gFr.refl.trf hF6 (fun b t e hb hn => gno0))) hq7) ⟨rfl, rfl⟩ ⟨(Nat.le_of_ble_eq_true rfl), (Nat.le_of_ble_eq_true rfl)⟩ rfl (Nat.le_of_ble_eq_true rfl) dX0_removeMessage_11 rfl ⟨(Nat.le_of_ble_eq_true rfl), (Nat.le_of_ble_eq_true rfl)⟩) 1 (Nat.le_of_ble_eq_true rfl) 1 (Nat.le_of_ble_eq_true rfl) 14 rfl (fun r12 M9 k10 hp11 => ?_)
  obtain ⟨rfl, hpd13, hF14, hk15⟩ := hp11
  refine g_ifnonnull hC dX0_removeMessage_14 22 rfl 17 rfl (fun x_16 e_17 => ?_) (fun e_17 => ?_)
  · refine g_aload_n hC dX0_removeMessage_22 0 rfl gRef_r 23 rfl ?_
    refine g_get (v := .ref ms) hC cI0 (hF14 _ _ _ (hF6 _ _ _ hM_0 gno0) (show ¬ (fun t => tgE (8, 3).1 (8, 3).2 t ∨ tgE (8, 4).1 (8, 4).2 t) (8, 0) by (try simp only [ndT, tgE, gT, tgR, ndT9, ndW, tg0, Prod.mk.injEq, true_and, and_true, cpyT, msT]); first | done | omega | (simp; done) | simp_all)) 2 (Nat.le_of_ble_eq_true rfl) q519 rfl dX0_removeMessage_23 26 rfl ?_
    refine g_getN (v := .ref an) hC cI6 (hF14 _ _ _ (hF6 _ _ _ hM_8 gno0) (show ¬ (fun t => tgE (8, 3).1 (8, 3).2 t ∨ tgE (8, 4).1 (8, 4).2 t) (8, 2) by (try simp only [ndT, tgE, gT, tgR, ndT9, ndW, tg0, Prod.mk.injEq, true_and, and_true, cpyT, msT]); first | done | omega | (simp; done) | simp_all)) 0 (Nat.le_of_ble_eq_true rfl) q513 rfl dX0_removeMessage_26 29 rfl ?_
    refine g_calliP (g_V (As := []) (rest := []) hC mvJ9_size q566 (isTM.of hC.K hpd13) (met_TMap_size l G M9 an (8, 3) (8, 4) (trem C x) hpd13) ⟨rfl, rfl⟩ ⟨(Nat.le_of_ble_eq_true rfl), (Nat.le_of_ble_eq_true rfl)⟩ rfl (Nat.le_of_ble_eq_true rfl) dX0_removeMessage_29 rfl ⟨(Nat.le_of_ble_eq_true rfl), (Nat.le_of_ble_eq_true rfl)⟩) 32 rfl 1 (Nat.le_of_ble_eq_true rfl) ?_
    refine g_topi (y := nI ((trem C x).length)) (congrArg nI (show (trem C x).length = (trem C x).length by omega)) ?_
    exact g_iret (v := nI ((trem C x).length)) hC (fun k9 hk9 => ⟨(by rw [(hR.rem hai hax).len]), ⟨an, trem C x, md, (hF14 _ _ _ (hF6 _ _ _ hM_8 gno0) (show ¬ (fun t => tgE (8, 3).1 (8, 3).2 t ∨ tgE (8, 4).1 (8, 4).2 t) (8, 2) by (try simp only [ndT, tgE, gT, tgR, ndT9, ndW, tg0, Prod.mk.injEq, true_and, and_true, cpyT, msT]); first | done | omega | (simp; done) | simp_all)), hpd13, (mss.rem (mss.fr hP_9 ((gFr.refl.trf hF6 (fun b t e hb hn => gno0)).trans (hF14.mono (fun b t h => by obtain ⟨u9, v9⟩ := t; revert h; (try simp only [ndT, tgE, gT, tgR, ndT9, ndW, tg0, Prod.mk.injEq, true_and, and_true, cpyT, msT]); first | done | omega | (simp; done) | (intro h; simp_all; done)))))), (hR.rem hai hax)⟩, ((gFr.refl.trf hF6 (fun b t e hb hn => gno0)).trans (hF14.mono (fun b t h => by obtain ⟨u9, v9⟩ := t; revert h; (try simp only [ndT, tgE, gT, tgR, ndT9, ndW, tg0, Prod.mk.injEq, true_and, and_true, cpyT, msT]); first | done | omega | (simp; done) | (intro h; simp_all; done)))), (by first | exact Nat.le_zero.mp hk9 | omega)⟩) dX0_removeMessage_32 (Nat.le_of_ble_eq_true rfl) (Nat.le_of_ble_eq_true rfl)
  · refine g_bipush hC dX0_removeMessage_17 kb_m5 19 rfl ?_
    refine g_goto hC dX0_removeMessage_19 32 rfl ?_
    exact g_iret (v := -5) hC (fun k9 hk9 => ⟨(absurd (htg.symm.trans e_17) (by simp)), (absurd (htg.symm.trans e_17) (by simp)), ((gFr.refl.trf hF6 (fun b t e hb hn => gno0)).trans (hF14.mono (fun b t h => by obtain ⟨u9, v9⟩ := t; revert h; (try simp only [ndT, tgE, gT, tgR, ndT9, ndW, tg0, Prod.mk.injEq, true_and, and_true, cpyT, msT]); first | done | omega | (simp; done) | (intro h; simp_all; done)))), (by first | exact Nat.le_zero.mp hk9 | omega)⟩) dX0_removeMessage_32 (Nat.le_of_ble_eq_true rfl) (Nat.le_of_ble_eq_true rfl)
set_option maxHeartbeats 4000000 in
theorem met_X_addMessage_b (l : Launch) (G : gG) (M : gM) (xa : Nat) (sv : Nat) (ms : Nat) (tx : Nat) (le : Int32) (of : Nat) (g : Nat → Int32) (mc : Nat) (x : Int32) (ln : Int32) (pe : Int32) (ji : Int32) (hP : ¬ okP x ln pe ji) (hM_0 : M xa = some ((8, 0), .inr (0, [.ref of, .ref sv, .ref ms, .ref tx, .int le]))) : Met l yX0_addMessage (ws_ yX0_addMessage cX0_addMessage 5 (some .int)) ({ frames := 1, cells := 0, slots := 0, locals := 25 }) (gPc G [.ref xa, .int x, .int ln, .int pe, .int ji] M) (gQi G (fun r9 M9 k9 => r9 = (-2) ∧ M9 = M ∧ k9 = 0)) 0 0 (gA G) := by
  refine gMet [(0, .ref xa), (1, .int x), (2, .int ln), (3, .int pe), (4, .int ji)] (by decide) (Nat.le_of_ble_eq_true rfl) rfl ?_
  intro p e s m below meth c hC
  refine g_iload_n hC dX0_addMessage_0 1 rfl 1 rfl ?_
  refine g_i2l hC dX0_addMessage_1 2 rfl ?_
  refine g_lconst (v := 0) hC dX0_addMessage_2 (by decide) 3 rfl ?_
  refine g_ldc2 hC q554 dX0_addMessage_3 6 rfl ?_
  refine g_calliP (g_S (As := [.long (Int32.toInt64 x), .long 0, .long 2047]) (rest := []) hC msX0_isIn q541 (met_isIn l G M (Int32.toInt64 x) 0 2047) ⟨rfl, rfl⟩ ⟨(Nat.le_of_ble_eq_true rfl), (Nat.le_of_ble_eq_true rfl)⟩ rfl (Nat.le_of_ble_eq_true rfl) dX0_addMessage_6 rfl ⟨(Nat.le_of_ble_eq_true rfl), (Nat.le_of_ble_eq_true rfl)⟩) 9 rfl 0 (Nat.le_of_ble_eq_true rfl) ?_
  refine g_topi (y := bI (decide (0 ≤ x ∧ x ≤ 2047))) (isIn_c 0 2047 (by decide) (by decide)) ?_
  refine g_if_eq hC dX0_addMessage_9 49 rfl 12 rfl (fun c_1 => ?_) (fun c_1 => ?_)
  · replace c_1 := bId_0 c_1
    refine g_bipush hC dX0_addMessage_49 kb_m2 51 rfl ?_
    exact g_iret (v := -2) hC (fun k9 hk9 => ⟨rfl, rfl, Nat.le_zero.mp hk9⟩) dX0_addMessage_51 (Nat.le_of_ble_eq_true rfl) (Nat.le_of_ble_eq_true rfl)
  · replace c_1 := bId_1 c_1
    refine g_iload_n hC dX0_addMessage_12 2 rfl 13 rfl ?_
    refine g_i2l hC dX0_addMessage_13 14 rfl ?_
    refine g_lconst (v := 0) hC dX0_addMessage_14 (by decide) 15 rfl ?_
    refine g_ldc2 hC q562 dX0_addMessage_15 18 rfl ?_
    refine g_calliP (g_S (As := [.long (Int32.toInt64 ln), .long 0, .long 4]) (rest := []) hC msX0_isIn q541 (met_isIn l G M (Int32.toInt64 ln) 0 4) ⟨rfl, rfl⟩ ⟨(Nat.le_of_ble_eq_true rfl), (Nat.le_of_ble_eq_true rfl)⟩ rfl (Nat.le_of_ble_eq_true rfl) dX0_addMessage_18 rfl ⟨(Nat.le_of_ble_eq_true rfl), (Nat.le_of_ble_eq_true rfl)⟩) 21 rfl 0 (Nat.le_of_ble_eq_true rfl) ?_
    refine g_topi (y := bI (decide (0 ≤ ln ∧ ln ≤ 4))) (isIn_c 0 4 (by decide) (by decide)) ?_
    refine g_if_eq hC dX0_addMessage_21 49 rfl 24 rfl (fun c_2 => ?_) (fun c_2 => ?_)
    · replace c_2 := bId_0 c_2
      refine g_bipush hC dX0_addMessage_49 kb_m2 51 rfl ?_
      exact g_iret (v := -2) hC (fun k9 hk9 => ⟨rfl, rfl, Nat.le_zero.mp hk9⟩) dX0_addMessage_51 (Nat.le_of_ble_eq_true rfl) (Nat.le_of_ble_eq_true rfl)
    · replace c_2 := bId_1 c_2
      refine g_iload_n hC dX0_addMessage_24 3 rfl 25 rfl ?_
      refine g_i2l hC dX0_addMessage_25 26 rfl ?_
      refine g_lconst (v := 1) hC dX0_addMessage_26 (by decide) 27 rfl ?_
      refine g_ldc2 hC q2627 dX0_addMessage_27 30 rfl ?_
      refine g_calliP (g_S (As := [.long (Int32.toInt64 pe), .long 1, .long 5000]) (rest := []) hC msX0_isIn q541 (met_isIn l G M (Int32.toInt64 pe) 1 5000) ⟨rfl, rfl⟩ ⟨(Nat.le_of_ble_eq_true rfl), (Nat.le_of_ble_eq_true rfl)⟩ rfl (Nat.le_of_ble_eq_true rfl) dX0_addMessage_30 rfl ⟨(Nat.le_of_ble_eq_true rfl), (Nat.le_of_ble_eq_true rfl)⟩) 33 rfl 0 (Nat.le_of_ble_eq_true rfl) ?_
      refine g_topi (y := bI (decide (1 ≤ pe ∧ pe ≤ 5000))) (isIn_c 1 5000 (by decide) (by decide)) ?_
      refine g_if_eq hC dX0_addMessage_33 49 rfl 36 rfl (fun c_3 => ?_) (fun c_3 => ?_)
      · replace c_3 := bId_0 c_3
        refine g_bipush hC dX0_addMessage_49 kb_m2 51 rfl ?_
        exact g_iret (v := -2) hC (fun k9 hk9 => ⟨rfl, rfl, Nat.le_zero.mp hk9⟩) dX0_addMessage_51 (Nat.le_of_ble_eq_true rfl) (Nat.le_of_ble_eq_true rfl)
      · replace c_3 := bId_1 c_3
        refine g_iload hC dX0_addMessage_36 4 rfl 38 rfl ?_
        refine g_i2l hC dX0_addMessage_38 39 rfl ?_
        refine g_lconst (v := 0) hC dX0_addMessage_39 (by decide) 40 rfl ?_
        refine g_ldc2 hC q2628 dX0_addMessage_40 43 rfl ?_
        refine g_calliP (g_S (As := [.long (Int32.toInt64 ji), .long 0, .long 500]) (rest := []) hC msX0_isIn q541 (met_isIn l G M (Int32.toInt64 ji) 0 500) ⟨rfl, rfl⟩ ⟨(Nat.le_of_ble_eq_true rfl), (Nat.le_of_ble_eq_true rfl)⟩ rfl (Nat.le_of_ble_eq_true rfl) dX0_addMessage_43 rfl ⟨(Nat.le_of_ble_eq_true rfl), (Nat.le_of_ble_eq_true rfl)⟩) 46 rfl 0 (Nat.le_of_ble_eq_true rfl) ?_
        refine g_topi (y := bI (decide (0 ≤ ji ∧ ji ≤ 500))) (isIn_c 0 500 (by decide) (by decide)) ?_
        refine g_if_ne hC dX0_addMessage_46 52 rfl 49 rfl (fun c_4 => ?_) (fun c_4 => ?_)
        · replace c_4 := bId_1 c_4
          exact absurd ⟨⟨c_1, c_2⟩, c_3, c_4⟩ hP
        · replace c_4 := bId_0 c_4
          refine g_bipush hC dX0_addMessage_49 kb_m2 51 rfl ?_
          exact g_iret (v := -2) hC (fun k9 hk9 => ⟨rfl, rfl, Nat.le_zero.mp hk9⟩) dX0_addMessage_51 (Nat.le_of_ble_eq_true rfl) (Nat.le_of_ble_eq_true rfl)
set_option maxHeartbeats 4000000 in
theorem met_X_addMessage_f (l : Launch) (G : gG) (M : gM) (xa : Nat) (sv : Nat) (ms : Nat) (tx : Nat) (le : Int32) (of : Nat) (g : Nat → Int32) (mc : Nat) (xn : Nat) (ln : Nat) (pe : Nat) (ji : Nat) (h1 : xn ≤ 2047) (h2 : ln ≤ 4) (h3 : 1 ≤ pe ∧ pe ≤ 5000) (h4 : ji ≤ 500) (hno : ∀ i, i < mc → ¬ g (4 * i) = nI xn) (h8 : mc = 8) (hM_0 : M xa = some ((8, 0), .inr (0, [.ref of, .ref sv, .ref ms, .ref tx, .int le]))) (hP_0 : msR M G ms g mc) : Met l yX0_addMessage (ws_ yX0_addMessage cX0_addMessage 5 (some .int)) ({ frames := 6, cells := 1, slots := 1, locals := 135 }) (gPc G [.ref xa, .int (nI xn), .int (nI ln), .int (nI pe), .int (nI ji)] M) (gQi G (fun r9 M9 k9 => r9 = (-3) ∧ gFr (gL []) M M9 ∧ k9 ≤ 1)) 1 1 (gA G) := by
  refine gMet [(0, .ref xa), (1, .int (nI xn)), (2, .int (nI ln)), (3, .int (nI pe)), (4, .int (nI ji))] (by decide) (Nat.le_of_ble_eq_true rfl) rfl ?_
  intro p e s m below meth c hC
  have hP := okP.mk h1 h2 h3 h4
  refine g_iload_n hC dX0_addMessage_0 1 rfl 1 rfl ?_
  refine g_i2l hC dX0_addMessage_1 2 rfl ?_
  refine g_lconst (v := 0) hC dX0_addMessage_2 (by decide) 3 rfl ?_
  refine g_ldc2 hC q554 dX0_addMessage_3 6 rfl ?_
  refine g_calliP (g_S (As := [.long (Int32.toInt64 (nI xn)), .long 0, .long 2047]) (rest := []) hC msX0_isIn q541 (met_isIn l G M (Int32.toInt64 (nI xn)) 0 2047) ⟨rfl, rfl⟩ ⟨(Nat.le_of_ble_eq_true rfl), (Nat.le_of_ble_eq_true rfl)⟩ rfl (Nat.le_of_ble_eq_true rfl) dX0_addMessage_6 rfl ⟨(Nat.le_of_ble_eq_true rfl), (Nat.le_of_ble_eq_true rfl)⟩) 9 rfl 0 (Nat.le_of_ble_eq_true rfl) ?_
  refine g_topi (y := bI (decide (0 ≤ nI xn ∧ nI xn ≤ 2047))) (isIn_c 0 2047 (by decide) (by decide)) ?_
  refine g_if_eq hC dX0_addMessage_9 49 rfl 12 rfl (fun c_1 => ?_) (fun c_1 => ?_)
  · replace c_1 := bId_0 c_1
    exact absurd hP.1.1 c_1
  · replace c_1 := bId_1 c_1
    refine g_iload_n hC dX0_addMessage_12 2 rfl 13 rfl ?_
    refine g_i2l hC dX0_addMessage_13 14 rfl ?_
    refine g_lconst (v := 0) hC dX0_addMessage_14 (by decide) 15 rfl ?_
    refine g_ldc2 hC q562 dX0_addMessage_15 18 rfl ?_
    refine g_calliP (g_S (As := [.long (Int32.toInt64 (nI ln)), .long 0, .long 4]) (rest := []) hC msX0_isIn q541 (met_isIn l G M (Int32.toInt64 (nI ln)) 0 4) ⟨rfl, rfl⟩ ⟨(Nat.le_of_ble_eq_true rfl), (Nat.le_of_ble_eq_true rfl)⟩ rfl (Nat.le_of_ble_eq_true rfl) dX0_addMessage_18 rfl ⟨(Nat.le_of_ble_eq_true rfl), (Nat.le_of_ble_eq_true rfl)⟩) 21 rfl 0 (Nat.le_of_ble_eq_true rfl) ?_
    refine g_topi (y := bI (decide (0 ≤ nI ln ∧ nI ln ≤ 4))) (isIn_c 0 4 (by decide) (by decide)) ?_
    refine g_if_eq hC dX0_addMessage_21 49 rfl 24 rfl (fun c_2 => ?_) (fun c_2 => ?_)
    · replace c_2 := bId_0 c_2
      exact absurd hP.1.2 c_2
    · replace c_2 := bId_1 c_2
      refine g_iload_n hC dX0_addMessage_24 3 rfl 25 rfl ?_
      refine g_i2l hC dX0_addMessage_25 26 rfl ?_
      refine g_lconst (v := 1) hC dX0_addMessage_26 (by decide) 27 rfl ?_
      refine g_ldc2 hC q2627 dX0_addMessage_27 30 rfl ?_
      refine g_calliP (g_S (As := [.long (Int32.toInt64 (nI pe)), .long 1, .long 5000]) (rest := []) hC msX0_isIn q541 (met_isIn l G M (Int32.toInt64 (nI pe)) 1 5000) ⟨rfl, rfl⟩ ⟨(Nat.le_of_ble_eq_true rfl), (Nat.le_of_ble_eq_true rfl)⟩ rfl (Nat.le_of_ble_eq_true rfl) dX0_addMessage_30 rfl ⟨(Nat.le_of_ble_eq_true rfl), (Nat.le_of_ble_eq_true rfl)⟩) 33 rfl 0 (Nat.le_of_ble_eq_true rfl) ?_
      refine g_topi (y := bI (decide (1 ≤ nI pe ∧ nI pe ≤ 5000))) (isIn_c 1 5000 (by decide) (by decide)) ?_
      refine g_if_eq hC dX0_addMessage_33 49 rfl 36 rfl (fun c_3 => ?_) (fun c_3 => ?_)
      · replace c_3 := bId_0 c_3
        exact absurd hP.2.1 c_3
      · replace c_3 := bId_1 c_3
        refine g_iload hC dX0_addMessage_36 4 rfl 38 rfl ?_
        refine g_i2l hC dX0_addMessage_38 39 rfl ?_
        refine g_lconst (v := 0) hC dX0_addMessage_39 (by decide) 40 rfl ?_
        refine g_ldc2 hC q2628 dX0_addMessage_40 43 rfl ?_
        refine g_calliP (g_S (As := [.long (Int32.toInt64 (nI ji)), .long 0, .long 500]) (rest := []) hC msX0_isIn q541 (met_isIn l G M (Int32.toInt64 (nI ji)) 0 500) ⟨rfl, rfl⟩ ⟨(Nat.le_of_ble_eq_true rfl), (Nat.le_of_ble_eq_true rfl)⟩ rfl (Nat.le_of_ble_eq_true rfl) dX0_addMessage_43 rfl ⟨(Nat.le_of_ble_eq_true rfl), (Nat.le_of_ble_eq_true rfl)⟩) 46 rfl 0 (Nat.le_of_ble_eq_true rfl) ?_
        refine g_topi (y := bI (decide (0 ≤ nI ji ∧ nI ji ≤ 500))) (isIn_c 0 500 (by decide) (by decide)) ?_
        refine g_if_ne hC dX0_addMessage_46 52 rfl 49 rfl (fun c_4 => ?_) (fun c_4 => ?_)
        · replace c_4 := bId_1 c_4
          obtain ⟨an, C, md, hM_8, hP_8, hP_9, hR⟩ := id hP_0
          have hmo := hR.mo
          have hln := hR.len
          have htg := hR.none hno
          refine g_aload_n hC dX0_addMessage_52 0 rfl gRef_r 53 rfl ?_
          refine g_get (v := .ref ms) hC cI0 hM_0 2 (Nat.le_of_ble_eq_true rfl) q519 rfl dX0_addMessage_53 56 rfl ?_
          refine g_getN (v := .ref an) hC cI6 hM_8 0 (Nat.le_of_ble_eq_true rfl) q513 rfl dX0_addMessage_56 59 rfl ?_
          refine g_calliP (g_V (As := []) (rest := []) hC mvJ9_size q566 (isTM.of hC.K hP_8) (met_TMap_size l G M an (8, 3) (8, 4) C hP_8) ⟨rfl, rfl⟩ ⟨(Nat.le_of_ble_eq_true rfl), (Nat.le_of_ble_eq_true rfl)⟩ rfl (Nat.le_of_ble_eq_true rfl) dX0_addMessage_59 rfl ⟨(Nat.le_of_ble_eq_true rfl), (Nat.le_of_ble_eq_true rfl)⟩) 62 rfl 0 (Nat.le_of_ble_eq_true rfl) ?_
          refine g_bipush hC dX0_addMessage_62 kb_8 64 rfl ?_
          refine g_icmp_ne hC dX0_addMessage_64 87 rfl 67 rfl (fun c_5 => ?_) (fun c_5 => ?_)
          · replace c_5 : ¬ C.length = 8 := nn_neq (by omega) (by omega) c_5
            exact absurd c_5 (by omega)
          · replace c_5 : C.length = 8 := nn_eq (by omega) (by omega) c_5
            refine g_aload_n hC dX0_addMessage_67 0 rfl gRef_r 68 rfl ?_
            refine g_get (v := .ref ms) hC cI0 hM_0 2 (Nat.le_of_ble_eq_true rfl) q519 rfl dX0_addMessage_68 71 rfl ?_
            refine g_getN (v := .ref an) hC cI6 hM_8 0 (Nat.le_of_ble_eq_true rfl) q513 rfl dX0_addMessage_71 74 rfl ?_
            refine g_iload_n hC dX0_addMessage_74 1 rfl 75 rfl ?_
            refine g_callq (g_S (As := [.int (nI xn)]) (rest := [.ref an]) hC msJ11_valueOf q570 (met_valueOf l G M (nI xn)) ⟨rfl, rfl⟩ ⟨(Nat.le_of_ble_eq_true rfl), (Nat.le_of_ble_eq_true rfl)⟩ rfl (Nat.le_of_ble_eq_true rfl) dX0_addMessage_75 rfl ⟨(Nat.le_of_ble_eq_true rfl), (Nat.le_of_ble_eq_true rfl)⟩) 1 (Nat.le_of_ble_eq_true rfl) 1 (Nat.le_of_ble_eq_true rfl) 78 rfl (fun r9 M6 k7 hp8 => ?_)
            obtain ⟨a_10, rfl, hF11, hq12, hk13⟩ := hp8
            refine g_calliP (g_V (As := [.ref a_10]) (rest := []) hC mvJ9_containsKey q590 (isTM.of hC.K (isTM.fr hP_8 (gFr.refl.trf hF11 (fun b t e hb hn => gno0)))) (met_TMap_has l G M6 an (8, 3) (8, 4) C a_10 (nI xn) (isTM.fr hP_8 (gFr.refl.trf hF11 (fun b t e hb hn => gno0))) hq12) ⟨rfl, rfl⟩ ⟨(Nat.le_of_ble_eq_true rfl), (Nat.le_of_ble_eq_true rfl)⟩ rfl (Nat.le_of_ble_eq_true rfl) dX0_addMessage_78 rfl ⟨(Nat.le_of_ble_eq_true rfl), (Nat.le_of_ble_eq_true rfl)⟩) 81 rfl 1 (Nat.le_of_ble_eq_true rfl) ?_
            refine g_if_ne hC dX0_addMessage_81 87 rfl 84 rfl (fun c_14 => ?_) (fun c_14 => ?_)
            · exact absurd c_14 (by rw [htg]; decide)
            · refine g_bipush hC dX0_addMessage_84 kb_m3 86 rfl ?_
              exact g_iret (v := -3) hC (fun k9 hk9 => ⟨rfl, (gFr.refl.trans (hF11.mono (by intro b t hb; exact absurd hb List.not_mem_nil))), (by first | exact Nat.le_zero.mp hk9 | omega)⟩) dX0_addMessage_86 (Nat.le_of_ble_eq_true rfl) (Nat.le_of_ble_eq_true rfl)
        · replace c_4 := bId_0 c_4
          exact absurd hP.2.2 c_4
theorem worst_n {n : Nat} (h : n ≤ 4) : worstF (nI n) = nI (wN n) := by
  rcases (show n = 0 ∨ n = 1 ∨ n = 2 ∨ n = 3 ∨ n = 4 by omega) with rfl | rfl | rfl | rfl | rfl <;> decide
set_option maxHeartbeats 4000000 in
theorem met_X_addMessage_a (l : Launch) (G : gG) (M : gM) (xa : Nat) (sv : Nat) (ms : Nat) (tx : Nat) (le : Int32) (of : Nat) (g : Nat → Int32) (mc : Nat) (xn : Nat) (ln : Nat) (pe : Nat) (ji : Nat) (h1 : xn ≤ 2047) (h2 : ln ≤ 4) (h3 : 1 ≤ pe ∧ pe ≤ 5000) (h4 : ji ≤ 500) (hno : ∀ i, i < mc → ¬ g (4 * i) = nI xn) (h8 : mc < 8) (hM_0 : M xa = some ((8, 0), .inr (0, [.ref of, .ref sv, .ref ms, .ref tx, .int le]))) (hP_0 : msR M G ms g mc) : Met l yX0_addMessage (ws_ yX0_addMessage cX0_addMessage 5 (some .int)) ({ frames := 16, cells := 3, slots := 10, locals := 422 }) (gPc G [.ref xa, .int (nI xn), .int (nI ln), .int (nI pe), .int (nI ji)] M) (gQi G (fun r9 M9 k9 => r9 = (nI (mc + 1)) ∧ msR M9 G ms (msW g mc (nI xn) (nI ln) (nI pe) (nI ji)) (mc + 1) ∧ gFr (gT (fun t => tgE 8 3 t ∨ tgE 8 4 t ∨ t.1 = 9)) M M9 ∧ k9 ≤ 4)) 3 10 (gA G) := by
  refine gMet [(0, .ref xa), (1, .int (nI xn)), (2, .int (nI ln)), (3, .int (nI pe)), (4, .int (nI ji))] (by decide) (Nat.le_of_ble_eq_true rfl) rfl ?_
  intro p e s m below meth c hC
  have hP := okP.mk h1 h2 h3 h4
  refine g_iload_n hC dX0_addMessage_0 1 rfl 1 rfl ?_
  refine g_i2l hC dX0_addMessage_1 2 rfl ?_
  refine g_lconst (v := 0) hC dX0_addMessage_2 (by decide) 3 rfl ?_
  refine g_ldc2 hC q554 dX0_addMessage_3 6 rfl ?_
  refine g_calliP (g_S (As := [.long (Int32.toInt64 (nI xn)), .long 0, .long 2047]) (rest := []) hC msX0_isIn q541 (met_isIn l G M (Int32.toInt64 (nI xn)) 0 2047) ⟨rfl, rfl⟩ ⟨(Nat.le_of_ble_eq_true rfl), (Nat.le_of_ble_eq_true rfl)⟩ rfl (Nat.le_of_ble_eq_true rfl) dX0_addMessage_6 rfl ⟨(Nat.le_of_ble_eq_true rfl), (Nat.le_of_ble_eq_true rfl)⟩) 9 rfl 0 (Nat.le_of_ble_eq_true rfl) ?_
  refine g_topi (y := bI (decide (0 ≤ nI xn ∧ nI xn ≤ 2047))) (isIn_c 0 2047 (by decide) (by decide)) ?_
  refine g_if_eq hC dX0_addMessage_9 49 rfl 12 rfl (fun c_1 => ?_) (fun c_1 => ?_)
  · replace c_1 := bId_0 c_1
    exact absurd hP.1.1 c_1
  · replace c_1 := bId_1 c_1
    refine g_iload_n hC dX0_addMessage_12 2 rfl 13 rfl ?_
    refine g_i2l hC dX0_addMessage_13 14 rfl ?_
    refine g_lconst (v := 0) hC dX0_addMessage_14 (by decide) 15 rfl ?_
    refine g_ldc2 hC q562 dX0_addMessage_15 18 rfl ?_
    refine g_calliP (g_S (As := [.long (Int32.toInt64 (nI ln)), .long 0, .long 4]) (rest := []) hC msX0_isIn q541 (met_isIn l G M (Int32.toInt64 (nI ln)) 0 4) ⟨rfl, rfl⟩ ⟨(Nat.le_of_ble_eq_true rfl), (Nat.le_of_ble_eq_true rfl)⟩ rfl (Nat.le_of_ble_eq_true rfl) dX0_addMessage_18 rfl ⟨(Nat.le_of_ble_eq_true rfl), (Nat.le_of_ble_eq_true rfl)⟩) 21 rfl 0 (Nat.le_of_ble_eq_true rfl) ?_
    refine g_topi (y := bI (decide (0 ≤ nI ln ∧ nI ln ≤ 4))) (isIn_c 0 4 (by decide) (by decide)) ?_
    refine g_if_eq hC dX0_addMessage_21 49 rfl 24 rfl (fun c_2 => ?_) (fun c_2 => ?_)
    · replace c_2 := bId_0 c_2
      exact absurd hP.1.2 c_2
    · replace c_2 := bId_1 c_2
      refine g_iload_n hC dX0_addMessage_24 3 rfl 25 rfl ?_
      refine g_i2l hC dX0_addMessage_25 26 rfl ?_
      refine g_lconst (v := 1) hC dX0_addMessage_26 (by decide) 27 rfl ?_
      refine g_ldc2 hC q2627 dX0_addMessage_27 30 rfl ?_
      refine g_calliP (g_S (As := [.long (Int32.toInt64 (nI pe)), .long 1, .long 5000]) (rest := []) hC msX0_isIn q541 (met_isIn l G M (Int32.toInt64 (nI pe)) 1 5000) ⟨rfl, rfl⟩ ⟨(Nat.le_of_ble_eq_true rfl), (Nat.le_of_ble_eq_true rfl)⟩ rfl (Nat.le_of_ble_eq_true rfl) dX0_addMessage_30 rfl ⟨(Nat.le_of_ble_eq_true rfl), (Nat.le_of_ble_eq_true rfl)⟩) 33 rfl 0 (Nat.le_of_ble_eq_true rfl) ?_
      refine g_topi (y := bI (decide (1 ≤ nI pe ∧ nI pe ≤ 5000))) (isIn_c 1 5000 (by decide) (by decide)) ?_
      refine g_if_eq hC dX0_addMessage_33 49 rfl 36 rfl (fun c_3 => ?_) (fun c_3 => ?_)
      · replace c_3 := bId_0 c_3
        exact absurd hP.2.1 c_3
      · replace c_3 := bId_1 c_3
        refine g_iload hC dX0_addMessage_36 4 rfl 38 rfl ?_
        refine g_i2l hC dX0_addMessage_38 39 rfl ?_
        refine g_lconst (v := 0) hC dX0_addMessage_39 (by decide) 40 rfl ?_
        refine g_ldc2 hC q2628 dX0_addMessage_40 43 rfl ?_
        refine g_calliP (g_S (As := [.long (Int32.toInt64 (nI ji)), .long 0, .long 500]) (rest := []) hC msX0_isIn q541 (met_isIn l G M (Int32.toInt64 (nI ji)) 0 500) ⟨rfl, rfl⟩ ⟨(Nat.le_of_ble_eq_true rfl), (Nat.le_of_ble_eq_true rfl)⟩ rfl (Nat.le_of_ble_eq_true rfl) dX0_addMessage_43 rfl ⟨(Nat.le_of_ble_eq_true rfl), (Nat.le_of_ble_eq_true rfl)⟩) 46 rfl 0 (Nat.le_of_ble_eq_true rfl) ?_
        refine g_topi (y := bI (decide (0 ≤ nI ji ∧ nI ji ≤ 500))) (isIn_c 0 500 (by decide) (by decide)) ?_
        refine g_if_ne hC dX0_addMessage_46 52 rfl 49 rfl (fun c_4 => ?_) (fun c_4 => ?_)
        · replace c_4 := bId_1 c_4
          obtain ⟨an, C, md, hM_8, hP_8, hP_9, hR⟩ := id hP_0
          have hmo := hR.mo
          have hln := hR.len
          have htg := hR.none hno
          refine g_aload_n hC dX0_addMessage_52 0 rfl gRef_r 53 rfl ?_
          refine g_get (v := .ref ms) hC cI0 hM_0 2 (Nat.le_of_ble_eq_true rfl) q519 rfl dX0_addMessage_53 56 rfl ?_
          refine g_getN (v := .ref an) hC cI6 hM_8 0 (Nat.le_of_ble_eq_true rfl) q513 rfl dX0_addMessage_56 59 rfl ?_
          refine g_calliP (g_V (As := []) (rest := []) hC mvJ9_size q566 (isTM.of hC.K hP_8) (met_TMap_size l G M an (8, 3) (8, 4) C hP_8) ⟨rfl, rfl⟩ ⟨(Nat.le_of_ble_eq_true rfl), (Nat.le_of_ble_eq_true rfl)⟩ rfl (Nat.le_of_ble_eq_true rfl) dX0_addMessage_59 rfl ⟨(Nat.le_of_ble_eq_true rfl), (Nat.le_of_ble_eq_true rfl)⟩) 62 rfl 0 (Nat.le_of_ble_eq_true rfl) ?_
          refine g_bipush hC dX0_addMessage_62 kb_8 64 rfl ?_
          refine g_icmp_ne hC dX0_addMessage_64 87 rfl 67 rfl (fun c_5 => ?_) (fun c_5 => ?_)
          · replace c_5 : ¬ C.length = 8 := nn_neq (by omega) (by omega) c_5
            refine g_aload_n hC dX0_addMessage_87 0 rfl gRef_r 88 rfl ?_
            refine g_get (v := .ref ms) hC cI0 hM_0 2 (Nat.le_of_ble_eq_true rfl) q519 rfl dX0_addMessage_88 91 rfl ?_
            refine g_getN (v := .ref an) hC cI6 hM_8 0 (Nat.le_of_ble_eq_true rfl) q513 rfl dX0_addMessage_91 94 rfl ?_
            refine g_iload_n hC dX0_addMessage_94 1 rfl 95 rfl ?_
            refine g_callq (g_S (As := [.int (nI xn)]) (rest := [.ref an]) hC msJ11_valueOf q570 (met_valueOf l G M (nI xn)) ⟨rfl, rfl⟩ ⟨(Nat.le_of_ble_eq_true rfl), (Nat.le_of_ble_eq_true rfl)⟩ rfl (Nat.le_of_ble_eq_true rfl) dX0_addMessage_95 rfl ⟨(Nat.le_of_ble_eq_true rfl), (Nat.le_of_ble_eq_true rfl)⟩) 1 (Nat.le_of_ble_eq_true rfl) 1 (Nat.le_of_ble_eq_true rfl) 98 rfl (fun r9 M6 k7 hp8 => ?_)
            obtain ⟨a_10, rfl, hF11, hq12, hk13⟩ := hp8
            refine g_new hC cI13 q2629 q2630 q165 df13 (0, 4) (Nat.le_of_ble_eq_true rfl) (Nat.le_of_ble_eq_true rfl) 2 (Nat.le_of_ble_eq_true rfl) 4 (Nat.le_of_ble_eq_true rfl) dX0_addMessage_98 101 rfl (fun a14 M15 hN16 => ?_)
            have hfr9 : ∀ e9 ∈ C, e9.2 ≠ a14 := fun e9 he9 => hN16.ne ((mss.fr hP_9 (gFr.refl.trf hF11 (fun b t e hb hn => gno0))) e9 he9)
            refine g_dup hC dX0_addMessage_101 rfl 102 rfl ?_
            refine g_iload_n hC dX0_addMessage_102 2 rfl 103 rfl ?_
            refine g_calliP (g_S (As := [.int (nI ln)]) (rest := [.ref a14, .ref a14, .ref a_10, .ref an]) hC msX0_worst q2620 (met_X_worst l G M15 (nI ln)) ⟨rfl, rfl⟩ ⟨(Nat.le_of_ble_eq_true rfl), (Nat.le_of_ble_eq_true rfl)⟩ rfl (Nat.le_of_ble_eq_true rfl) dX0_addMessage_103 rfl ⟨(Nat.le_of_ble_eq_true rfl), (Nat.le_of_ble_eq_true rfl)⟩) 106 rfl 4 (Nat.le_of_ble_eq_true rfl) ?_
            refine g_topi (y := nI (wN ln)) (worst_n h2) ?_
            refine g_iload_n hC dX0_addMessage_106 3 rfl 107 rfl ?_
            refine g_iload hC dX0_addMessage_107 4 rfl 109 rfl ?_
            refine g_callv (g_I (As := [.int (nI (wN ln)), .int (nI pe), .int (nI ji)]) (rest := [.ref a14, .ref a_10, .ref an]) hC miX17_init q2631 (met_Mg_init l G M15 a14 (0, 4) (nI (wN ln)) (nI pe) (nI ji) hN16.2.1) ⟨rfl, rfl⟩ ⟨(Nat.le_of_ble_eq_true rfl), (Nat.le_of_ble_eq_true rfl)⟩ rfl (Nat.le_of_ble_eq_true rfl) dX0_addMessage_109 rfl ⟨(Nat.le_of_ble_eq_true rfl), (Nat.le_of_ble_eq_true rfl)⟩) 2 (Nat.le_of_ble_eq_true rfl) 4 (Nat.le_of_ble_eq_true rfl) 112 rfl (fun M17 k18 hp19 => ?_)
            obtain ⟨hc21, hF22, hk23⟩ := hp19
            have hH24 := (hF22 _ _ _ (hN16.n (hF11 _ _ _ hM_0 gno0)) (gno (hN16.ne (hF11 _ _ _ hM_0 gno0)) gno0))
            have hH25 := (hF22 _ _ _ (hN16.n (hF11 _ _ _ hM_8 gno0)) (gno (hN16.ne (hF11 _ _ _ hM_8 gno0)) gno0))
            have hH26 : isTM M17 G (8, 3) (8, 4) an C := (isTM.fr hP_8 (((gFr.refl.trf hF11 (fun b t e hb hn => gno0)).nw hN16).trf hF22 (fun b t e hb hn => (gno (hN16.ne ((gFr.refl.trf hF11 (fun b t e hb hn => gno0)) b t e hb hn)) gno0))))
            have hH27 : mss M17 C md := (mss.fr hP_9 (((gFr.refl.trf hF11 (fun b t e hb hn => gno0)).nw hN16).trf hF22 (fun b t e hb hn => (gno (hN16.ne ((gFr.refl.trf hF11 (fun b t e hb hn => gno0)) b t e hb hn)) gno0))))
            refine g_callq (g_V (As := [.ref a_10, .ref a14]) (rest := []) hC mvJ9_put q1000 (isTM.of hC.K hH26) (met_TMap_put l G M17 an (8, 3) (8, 4) C a_10 (nI xn) a14 (by decide) (by decide) (by decide) hH26 hq12) ⟨rfl, rfl⟩ ⟨(Nat.le_of_ble_eq_true rfl), (Nat.le_of_ble_eq_true rfl)⟩ rfl (Nat.le_of_ble_eq_true rfl) dX0_addMessage_112 rfl ⟨(Nat.le_of_ble_eq_true rfl), (Nat.le_of_ble_eq_true rfl)⟩) 3 (Nat.le_of_ble_eq_true rfl) 10 (Nat.le_of_ble_eq_true rfl) 115 rfl (fun r31 M28 k29 hp30 => ?_)
            obtain ⟨rfl, hpd32, hF33, hk34⟩ := hp30
            refine g_pop hC dX0_addMessage_115 gcat_q 116 rfl ?_
            refine g_aload_n hC dX0_addMessage_116 0 rfl gRef_r 117 rfl ?_
            refine g_get (v := .ref ms) hC cI0 (hF33 _ _ _ hH24 (show ¬ (fun t => tgE (8, 3).1 (8, 3).2 t ∨ tgE (8, 4).1 (8, 4).2 t) (8, 0) by (try simp only [ndT, tgE, gT, tgR, ndT9, ndW, tg0, Prod.mk.injEq, true_and, and_true, cpyT, msT]); first | done | omega | (simp; done) | simp_all)) 2 (Nat.le_of_ble_eq_true rfl) q519 rfl dX0_addMessage_117 120 rfl ?_
            refine g_getN (v := .ref an) hC cI6 (hF33 _ _ _ hH25 (show ¬ (fun t => tgE (8, 3).1 (8, 3).2 t ∨ tgE (8, 4).1 (8, 4).2 t) (8, 2) by (try simp only [ndT, tgE, gT, tgR, ndT9, ndW, tg0, Prod.mk.injEq, true_and, and_true, cpyT, msT]); first | done | omega | (simp; done) | simp_all)) 0 (Nat.le_of_ble_eq_true rfl) q513 rfl dX0_addMessage_120 123 rfl ?_
            refine g_calliP (g_V (As := []) (rest := []) hC mvJ9_size q566 (isTM.of hC.K hpd32) (met_TMap_size l G M28 an (8, 3) (8, 4) (tput C (nI xn) a14) hpd32) ⟨rfl, rfl⟩ ⟨(Nat.le_of_ble_eq_true rfl), (Nat.le_of_ble_eq_true rfl)⟩ rfl (Nat.le_of_ble_eq_true rfl) dX0_addMessage_123 rfl ⟨(Nat.le_of_ble_eq_true rfl), (Nat.le_of_ble_eq_true rfl)⟩) 126 rfl 10 (Nat.le_of_ble_eq_true rfl) ?_
            refine g_topi (y := nI ((tput C (nI xn) a14).length)) (congrArg nI (show (tput C (nI xn) a14).length = (tput C (nI xn) a14).length by omega)) ?_
            exact g_iret (v := nI ((tput C (nI xn) a14).length)) hC (fun k9 hk9 => ⟨(by rw [(hR.put hfr9 h1 h2 h3 h4 (Or.inl ⟨rfl, rfl, h8, hno⟩)).len]), ⟨an, tput C (nI xn) a14, mdU md a14 (xn, ln, pe, ji), (hF33 _ _ _ hH25 (show ¬ (fun t => tgE (8, 3).1 (8, 3).2 t ∨ tgE (8, 4).1 (8, 4).2 t) (8, 2) by (try simp only [ndT, tgE, gT, tgR, ndT9, ndW, tg0, Prod.mk.injEq, true_and, and_true, cpyT, msT]); first | done | omega | (simp; done) | simp_all)), hpd32, (mss.put (x := nI xn) (d := (xn, ln, pe, ji)) (mss.fr hH27 (gFr.refl.trans (hF33.mono (fun b t h => by obtain ⟨u9, v9⟩ := t; revert h; (try simp only [ndT, tgE, gT, tgR, ndT9, ndW, tg0, Prod.mk.injEq, true_and, and_true, cpyT, msT]); first | done | omega | (simp; done) | (intro h; simp_all; done))))) hmo.1 hfr9 (hF33 _ _ _ hc21 (show ¬ (fun t => tgE (8, 3).1 (8, 3).2 t ∨ tgE (8, 4).1 (8, 4).2 t) (0, 4) by (try simp only [ndT, tgE, gT, tgR, ndT9, ndW, tg0, Prod.mk.injEq, true_and, and_true, cpyT, msT]); first | done | omega | (simp; done) | simp_all))), (hR.put hfr9 h1 h2 h3 h4 (Or.inl ⟨rfl, rfl, h8, hno⟩))⟩, ((((gFr.refl.trf hF11 (fun b t e hb hn => gno0)).nw hN16).trf hF22 (fun b t e hb hn => (gno (hN16.ne ((gFr.refl.trf hF11 (fun b t e hb hn => gno0)) b t e hb hn)) gno0))).trans (hF33.mono (fun b t h => by obtain ⟨u9, v9⟩ := t; revert h; (try simp only [ndT, tgE, gT, tgR, ndT9, ndW, tg0, Prod.mk.injEq, true_and, and_true, cpyT, msT]); first | done | omega | (simp; done) | (intro h; simp_all; done)))), (by first | exact Nat.le_zero.mp hk9 | omega)⟩) dX0_addMessage_126 (Nat.le_of_ble_eq_true rfl) (Nat.le_of_ble_eq_true rfl)
          · replace c_5 : C.length = 8 := nn_eq (by omega) (by omega) c_5
            exact absurd c_5 (by omega)
        · replace c_4 := bId_0 c_4
          exact absurd hP.2.2 c_4
set_option maxHeartbeats 4000000 in
theorem met_X_addMessage_r (l : Launch) (G : gG) (M : gM) (xa : Nat) (sv : Nat) (ms : Nat) (tx : Nat) (le : Int32) (of : Nat) (g : Nat → Int32) (mc : Nat) (xn : Nat) (ln : Nat) (pe : Nat) (ji : Nat) (ai : Nat) (h1 : xn ≤ 2047) (h2 : ln ≤ 4) (h3 : 1 ≤ pe ∧ pe ≤ 5000) (h4 : ji ≤ 500) (hai : ai < mc) (hax : g (4 * ai) = nI xn) (hM_0 : M xa = some ((8, 0), .inr (0, [.ref of, .ref sv, .ref ms, .ref tx, .int le]))) (hP_0 : msR M G ms g mc) : Met l yX0_addMessage (ws_ yX0_addMessage cX0_addMessage 5 (some .int)) ({ frames := 16, cells := 4, slots := 11, locals := 422 }) (gPc G [.ref xa, .int (nI xn), .int (nI ln), .int (nI pe), .int (nI ji)] M) (gQi G (fun r9 M9 k9 => r9 = (nI (mc)) ∧ msR M9 G ms (msW g ai (nI xn) (nI ln) (nI pe) (nI ji)) mc ∧ gFr (gT (fun t => tgE 8 3 t ∨ tgE 8 4 t ∨ t.1 = 9)) M M9 ∧ k9 ≤ 4)) 4 11 (gA G) := by
  refine gMet [(0, .ref xa), (1, .int (nI xn)), (2, .int (nI ln)), (3, .int (nI pe)), (4, .int (nI ji))] (by decide) (Nat.le_of_ble_eq_true rfl) rfl ?_
  intro p e s m below meth c hC
  have hP := okP.mk h1 h2 h3 h4
  refine g_iload_n hC dX0_addMessage_0 1 rfl 1 rfl ?_
  refine g_i2l hC dX0_addMessage_1 2 rfl ?_
  refine g_lconst (v := 0) hC dX0_addMessage_2 (by decide) 3 rfl ?_
  refine g_ldc2 hC q554 dX0_addMessage_3 6 rfl ?_
  refine g_calliP (g_S (As := [.long (Int32.toInt64 (nI xn)), .long 0, .long 2047]) (rest := []) hC msX0_isIn q541 (met_isIn l G M (Int32.toInt64 (nI xn)) 0 2047) ⟨rfl, rfl⟩ ⟨(Nat.le_of_ble_eq_true rfl), (Nat.le_of_ble_eq_true rfl)⟩ rfl (Nat.le_of_ble_eq_true rfl) dX0_addMessage_6 rfl ⟨(Nat.le_of_ble_eq_true rfl), (Nat.le_of_ble_eq_true rfl)⟩) 9 rfl 0 (Nat.le_of_ble_eq_true rfl) ?_
  refine g_topi (y := bI (decide (0 ≤ nI xn ∧ nI xn ≤ 2047))) (isIn_c 0 2047 (by decide) (by decide)) ?_
  refine g_if_eq hC dX0_addMessage_9 49 rfl 12 rfl (fun c_1 => ?_) (fun c_1 => ?_)
  · replace c_1 := bId_0 c_1
    exact absurd hP.1.1 c_1
  · replace c_1 := bId_1 c_1
    refine g_iload_n hC dX0_addMessage_12 2 rfl 13 rfl ?_
    refine g_i2l hC dX0_addMessage_13 14 rfl ?_
    refine g_lconst (v := 0) hC dX0_addMessage_14 (by decide) 15 rfl ?_
    refine g_ldc2 hC q562 dX0_addMessage_15 18 rfl ?_
    refine g_calliP (g_S (As := [.long (Int32.toInt64 (nI ln)), .long 0, .long 4]) (rest := []) hC msX0_isIn q541 (met_isIn l G M (Int32.toInt64 (nI ln)) 0 4) ⟨rfl, rfl⟩ ⟨(Nat.le_of_ble_eq_true rfl), (Nat.le_of_ble_eq_true rfl)⟩ rfl (Nat.le_of_ble_eq_true rfl) dX0_addMessage_18 rfl ⟨(Nat.le_of_ble_eq_true rfl), (Nat.le_of_ble_eq_true rfl)⟩) 21 rfl 0 (Nat.le_of_ble_eq_true rfl) ?_
    refine g_topi (y := bI (decide (0 ≤ nI ln ∧ nI ln ≤ 4))) (isIn_c 0 4 (by decide) (by decide)) ?_
    refine g_if_eq hC dX0_addMessage_21 49 rfl 24 rfl (fun c_2 => ?_) (fun c_2 => ?_)
    · replace c_2 := bId_0 c_2
      exact absurd hP.1.2 c_2
    · replace c_2 := bId_1 c_2
      refine g_iload_n hC dX0_addMessage_24 3 rfl 25 rfl ?_
      refine g_i2l hC dX0_addMessage_25 26 rfl ?_
      refine g_lconst (v := 1) hC dX0_addMessage_26 (by decide) 27 rfl ?_
      refine g_ldc2 hC q2627 dX0_addMessage_27 30 rfl ?_
      refine g_calliP (g_S (As := [.long (Int32.toInt64 (nI pe)), .long 1, .long 5000]) (rest := []) hC msX0_isIn q541 (met_isIn l G M (Int32.toInt64 (nI pe)) 1 5000) ⟨rfl, rfl⟩ ⟨(Nat.le_of_ble_eq_true rfl), (Nat.le_of_ble_eq_true rfl)⟩ rfl (Nat.le_of_ble_eq_true rfl) dX0_addMessage_30 rfl ⟨(Nat.le_of_ble_eq_true rfl), (Nat.le_of_ble_eq_true rfl)⟩) 33 rfl 0 (Nat.le_of_ble_eq_true rfl) ?_
      refine g_topi (y := bI (decide (1 ≤ nI pe ∧ nI pe ≤ 5000))) (isIn_c 1 5000 (by decide) (by decide)) ?_
      refine g_if_eq hC dX0_addMessage_33 49 rfl 36 rfl (fun c_3 => ?_) (fun c_3 => ?_)
      · replace c_3 := bId_0 c_3
        exact absurd hP.2.1 c_3
      · replace c_3 := bId_1 c_3
        refine g_iload hC dX0_addMessage_36 4 rfl 38 rfl ?_
        refine g_i2l hC dX0_addMessage_38 39 rfl ?_
        refine g_lconst (v := 0) hC dX0_addMessage_39 (by decide) 40 rfl ?_
        refine g_ldc2 hC q2628 dX0_addMessage_40 43 rfl ?_
        refine g_calliP (g_S (As := [.long (Int32.toInt64 (nI ji)), .long 0, .long 500]) (rest := []) hC msX0_isIn q541 (met_isIn l G M (Int32.toInt64 (nI ji)) 0 500) ⟨rfl, rfl⟩ ⟨(Nat.le_of_ble_eq_true rfl), (Nat.le_of_ble_eq_true rfl)⟩ rfl (Nat.le_of_ble_eq_true rfl) dX0_addMessage_43 rfl ⟨(Nat.le_of_ble_eq_true rfl), (Nat.le_of_ble_eq_true rfl)⟩) 46 rfl 0 (Nat.le_of_ble_eq_true rfl) ?_
        refine g_topi (y := bI (decide (0 ≤ nI ji ∧ nI ji ≤ 500))) (isIn_c 0 500 (by decide) (by decide)) ?_
        refine g_if_ne hC dX0_addMessage_46 52 rfl 49 rfl (fun c_4 => ?_) (fun c_4 => ?_)
        · replace c_4 := bId_1 c_4
          obtain ⟨an, C, md, hM_8, hP_8, hP_9, hR⟩ := id hP_0
          have hmo := hR.mo
          have hln := hR.len
          obtain ⟨mm, htg, hmd⟩ := hR.some hai hax
          refine g_aload_n hC dX0_addMessage_52 0 rfl gRef_r 53 rfl ?_
          refine g_get (v := .ref ms) hC cI0 hM_0 2 (Nat.le_of_ble_eq_true rfl) q519 rfl dX0_addMessage_53 56 rfl ?_
          refine g_getN (v := .ref an) hC cI6 hM_8 0 (Nat.le_of_ble_eq_true rfl) q513 rfl dX0_addMessage_56 59 rfl ?_
          refine g_calliP (g_V (As := []) (rest := []) hC mvJ9_size q566 (isTM.of hC.K hP_8) (met_TMap_size l G M an (8, 3) (8, 4) C hP_8) ⟨rfl, rfl⟩ ⟨(Nat.le_of_ble_eq_true rfl), (Nat.le_of_ble_eq_true rfl)⟩ rfl (Nat.le_of_ble_eq_true rfl) dX0_addMessage_59 rfl ⟨(Nat.le_of_ble_eq_true rfl), (Nat.le_of_ble_eq_true rfl)⟩) 62 rfl 0 (Nat.le_of_ble_eq_true rfl) ?_
          refine g_bipush hC dX0_addMessage_62 kb_8 64 rfl ?_
          refine g_icmp_ne hC dX0_addMessage_64 87 rfl 67 rfl (fun c_5 => ?_) (fun c_5 => ?_)
          · replace c_5 : ¬ C.length = 8 := nn_neq (by omega) (by omega) c_5
            refine g_aload_n hC dX0_addMessage_87 0 rfl gRef_r 88 rfl ?_
            refine g_get (v := .ref ms) hC cI0 hM_0 2 (Nat.le_of_ble_eq_true rfl) q519 rfl dX0_addMessage_88 91 rfl ?_
            refine g_getN (v := .ref an) hC cI6 hM_8 0 (Nat.le_of_ble_eq_true rfl) q513 rfl dX0_addMessage_91 94 rfl ?_
            refine g_iload_n hC dX0_addMessage_94 1 rfl 95 rfl ?_
            refine g_callq (g_S (As := [.int (nI xn)]) (rest := [.ref an]) hC msJ11_valueOf q570 (met_valueOf l G M (nI xn)) ⟨rfl, rfl⟩ ⟨(Nat.le_of_ble_eq_true rfl), (Nat.le_of_ble_eq_true rfl)⟩ rfl (Nat.le_of_ble_eq_true rfl) dX0_addMessage_95 rfl ⟨(Nat.le_of_ble_eq_true rfl), (Nat.le_of_ble_eq_true rfl)⟩) 1 (Nat.le_of_ble_eq_true rfl) 1 (Nat.le_of_ble_eq_true rfl) 98 rfl (fun r9 M6 k7 hp8 => ?_)
            obtain ⟨a_10, rfl, hF11, hq12, hk13⟩ := hp8
            refine g_new hC cI13 q2629 q2630 q165 df13 (0, 4) (Nat.le_of_ble_eq_true rfl) (Nat.le_of_ble_eq_true rfl) 2 (Nat.le_of_ble_eq_true rfl) 4 (Nat.le_of_ble_eq_true rfl) dX0_addMessage_98 101 rfl (fun a14 M15 hN16 => ?_)
            have hfr9 : ∀ e9 ∈ C, e9.2 ≠ a14 := fun e9 he9 => hN16.ne ((mss.fr hP_9 (gFr.refl.trf hF11 (fun b t e hb hn => gno0))) e9 he9)
            refine g_dup hC dX0_addMessage_101 rfl 102 rfl ?_
            refine g_iload_n hC dX0_addMessage_102 2 rfl 103 rfl ?_
            refine g_calliP (g_S (As := [.int (nI ln)]) (rest := [.ref a14, .ref a14, .ref a_10, .ref an]) hC msX0_worst q2620 (met_X_worst l G M15 (nI ln)) ⟨rfl, rfl⟩ ⟨(Nat.le_of_ble_eq_true rfl), (Nat.le_of_ble_eq_true rfl)⟩ rfl (Nat.le_of_ble_eq_true rfl) dX0_addMessage_103 rfl ⟨(Nat.le_of_ble_eq_true rfl), (Nat.le_of_ble_eq_true rfl)⟩) 106 rfl 4 (Nat.le_of_ble_eq_true rfl) ?_
            refine g_topi (y := nI (wN ln)) (worst_n h2) ?_
            refine g_iload_n hC dX0_addMessage_106 3 rfl 107 rfl ?_
            refine g_iload hC dX0_addMessage_107 4 rfl 109 rfl ?_
            refine g_callv (g_I (As := [.int (nI (wN ln)), .int (nI pe), .int (nI ji)]) (rest := [.ref a14, .ref a_10, .ref an]) hC miX17_init q2631 (met_Mg_init l G M15 a14 (0, 4) (nI (wN ln)) (nI pe) (nI ji) hN16.2.1) ⟨rfl, rfl⟩ ⟨(Nat.le_of_ble_eq_true rfl), (Nat.le_of_ble_eq_true rfl)⟩ rfl (Nat.le_of_ble_eq_true rfl) dX0_addMessage_109 rfl ⟨(Nat.le_of_ble_eq_true rfl), (Nat.le_of_ble_eq_true rfl)⟩) 2 (Nat.le_of_ble_eq_true rfl) 4 (Nat.le_of_ble_eq_true rfl) 112 rfl (fun M17 k18 hp19 => ?_)
            obtain ⟨hc21, hF22, hk23⟩ := hp19
            have hH24 := (hF22 _ _ _ (hN16.n (hF11 _ _ _ hM_0 gno0)) (gno (hN16.ne (hF11 _ _ _ hM_0 gno0)) gno0))
            have hH25 := (hF22 _ _ _ (hN16.n (hF11 _ _ _ hM_8 gno0)) (gno (hN16.ne (hF11 _ _ _ hM_8 gno0)) gno0))
            have hH26 : isTM M17 G (8, 3) (8, 4) an C := (isTM.fr hP_8 (((gFr.refl.trf hF11 (fun b t e hb hn => gno0)).nw hN16).trf hF22 (fun b t e hb hn => (gno (hN16.ne ((gFr.refl.trf hF11 (fun b t e hb hn => gno0)) b t e hb hn)) gno0))))
            have hH27 : mss M17 C md := (mss.fr hP_9 (((gFr.refl.trf hF11 (fun b t e hb hn => gno0)).nw hN16).trf hF22 (fun b t e hb hn => (gno (hN16.ne ((gFr.refl.trf hF11 (fun b t e hb hn => gno0)) b t e hb hn)) gno0))))
            refine g_callq (g_V (As := [.ref a_10, .ref a14]) (rest := []) hC mvJ9_put q1000 (isTM.of hC.K hH26) (met_TMap_put l G M17 an (8, 3) (8, 4) C a_10 (nI xn) a14 (by decide) (by decide) (by decide) hH26 hq12) ⟨rfl, rfl⟩ ⟨(Nat.le_of_ble_eq_true rfl), (Nat.le_of_ble_eq_true rfl)⟩ rfl (Nat.le_of_ble_eq_true rfl) dX0_addMessage_112 rfl ⟨(Nat.le_of_ble_eq_true rfl), (Nat.le_of_ble_eq_true rfl)⟩) 3 (Nat.le_of_ble_eq_true rfl) 10 (Nat.le_of_ble_eq_true rfl) 115 rfl (fun r31 M28 k29 hp30 => ?_)
            obtain ⟨rfl, hpd32, hF33, hk34⟩ := hp30
            refine g_pop hC dX0_addMessage_115 gcat_q 116 rfl ?_
            refine g_aload_n hC dX0_addMessage_116 0 rfl gRef_r 117 rfl ?_
            refine g_get (v := .ref ms) hC cI0 (hF33 _ _ _ hH24 (show ¬ (fun t => tgE (8, 3).1 (8, 3).2 t ∨ tgE (8, 4).1 (8, 4).2 t) (8, 0) by (try simp only [ndT, tgE, gT, tgR, ndT9, ndW, tg0, Prod.mk.injEq, true_and, and_true, cpyT, msT]); first | done | omega | (simp; done) | simp_all)) 2 (Nat.le_of_ble_eq_true rfl) q519 rfl dX0_addMessage_117 120 rfl ?_
            refine g_getN (v := .ref an) hC cI6 (hF33 _ _ _ hH25 (show ¬ (fun t => tgE (8, 3).1 (8, 3).2 t ∨ tgE (8, 4).1 (8, 4).2 t) (8, 2) by (try simp only [ndT, tgE, gT, tgR, ndT9, ndW, tg0, Prod.mk.injEq, true_and, and_true, cpyT, msT]); first | done | omega | (simp; done) | simp_all)) 0 (Nat.le_of_ble_eq_true rfl) q513 rfl dX0_addMessage_120 123 rfl ?_
            refine g_calliP (g_V (As := []) (rest := []) hC mvJ9_size q566 (isTM.of hC.K hpd32) (met_TMap_size l G M28 an (8, 3) (8, 4) (tput C (nI xn) a14) hpd32) ⟨rfl, rfl⟩ ⟨(Nat.le_of_ble_eq_true rfl), (Nat.le_of_ble_eq_true rfl)⟩ rfl (Nat.le_of_ble_eq_true rfl) dX0_addMessage_123 rfl ⟨(Nat.le_of_ble_eq_true rfl), (Nat.le_of_ble_eq_true rfl)⟩) 126 rfl 10 (Nat.le_of_ble_eq_true rfl) ?_
            refine g_topi (y := nI ((tput C (nI xn) a14).length)) (congrArg nI (show (tput C (nI xn) a14).length = (tput C (nI xn) a14).length by omega)) ?_
            exact g_iret (v := nI ((tput C (nI xn) a14).length)) hC (fun k9 hk9 => ⟨(by rw [(hR.put hfr9 h1 h2 h3 h4 (Or.inr ⟨hai, rfl, hax⟩)).len]), ⟨an, tput C (nI xn) a14, mdU md a14 (xn, ln, pe, ji), (hF33 _ _ _ hH25 (show ¬ (fun t => tgE (8, 3).1 (8, 3).2 t ∨ tgE (8, 4).1 (8, 4).2 t) (8, 2) by (try simp only [ndT, tgE, gT, tgR, ndT9, ndW, tg0, Prod.mk.injEq, true_and, and_true, cpyT, msT]); first | done | omega | (simp; done) | simp_all)), hpd32, (mss.put (x := nI xn) (d := (xn, ln, pe, ji)) (mss.fr hH27 (gFr.refl.trans (hF33.mono (fun b t h => by obtain ⟨u9, v9⟩ := t; revert h; (try simp only [ndT, tgE, gT, tgR, ndT9, ndW, tg0, Prod.mk.injEq, true_and, and_true, cpyT, msT]); first | done | omega | (simp; done) | (intro h; simp_all; done))))) hmo.1 hfr9 (hF33 _ _ _ hc21 (show ¬ (fun t => tgE (8, 3).1 (8, 3).2 t ∨ tgE (8, 4).1 (8, 4).2 t) (0, 4) by (try simp only [ndT, tgE, gT, tgR, ndT9, ndW, tg0, Prod.mk.injEq, true_and, and_true, cpyT, msT]); first | done | omega | (simp; done) | simp_all))), (hR.put hfr9 h1 h2 h3 h4 (Or.inr ⟨hai, rfl, hax⟩))⟩, ((((gFr.refl.trf hF11 (fun b t e hb hn => gno0)).nw hN16).trf hF22 (fun b t e hb hn => (gno (hN16.ne ((gFr.refl.trf hF11 (fun b t e hb hn => gno0)) b t e hb hn)) gno0))).trans (hF33.mono (fun b t h => by obtain ⟨u9, v9⟩ := t; revert h; (try simp only [ndT, tgE, gT, tgR, ndT9, ndW, tg0, Prod.mk.injEq, true_and, and_true, cpyT, msT]); first | done | omega | (simp; done) | (intro h; simp_all; done)))), (by first | exact Nat.le_zero.mp hk9 | omega)⟩) dX0_addMessage_126 (Nat.le_of_ble_eq_true rfl) (Nat.le_of_ble_eq_true rfl)
          · replace c_5 : C.length = 8 := nn_eq (by omega) (by omega) c_5
            refine g_aload_n hC dX0_addMessage_67 0 rfl gRef_r 68 rfl ?_
            refine g_get (v := .ref ms) hC cI0 hM_0 2 (Nat.le_of_ble_eq_true rfl) q519 rfl dX0_addMessage_68 71 rfl ?_
            refine g_getN (v := .ref an) hC cI6 hM_8 0 (Nat.le_of_ble_eq_true rfl) q513 rfl dX0_addMessage_71 74 rfl ?_
            refine g_iload_n hC dX0_addMessage_74 1 rfl 75 rfl ?_
            refine g_callq (g_S (As := [.int (nI xn)]) (rest := [.ref an]) hC msJ11_valueOf q570 (met_valueOf l G M (nI xn)) ⟨rfl, rfl⟩ ⟨(Nat.le_of_ble_eq_true rfl), (Nat.le_of_ble_eq_true rfl)⟩ rfl (Nat.le_of_ble_eq_true rfl) dX0_addMessage_75 rfl ⟨(Nat.le_of_ble_eq_true rfl), (Nat.le_of_ble_eq_true rfl)⟩) 1 (Nat.le_of_ble_eq_true rfl) 1 (Nat.le_of_ble_eq_true rfl) 78 rfl (fun r38 M35 k36 hp37 => ?_)
            obtain ⟨a_39, rfl, hF40, hq41, hk42⟩ := hp37
            refine g_calliP (g_V (As := [.ref a_39]) (rest := []) hC mvJ9_containsKey q590 (isTM.of hC.K (isTM.fr hP_8 (gFr.refl.trf hF40 (fun b t e hb hn => gno0)))) (met_TMap_has l G M35 an (8, 3) (8, 4) C a_39 (nI xn) (isTM.fr hP_8 (gFr.refl.trf hF40 (fun b t e hb hn => gno0))) hq41) ⟨rfl, rfl⟩ ⟨(Nat.le_of_ble_eq_true rfl), (Nat.le_of_ble_eq_true rfl)⟩ rfl (Nat.le_of_ble_eq_true rfl) dX0_addMessage_78 rfl ⟨(Nat.le_of_ble_eq_true rfl), (Nat.le_of_ble_eq_true rfl)⟩) 81 rfl 1 (Nat.le_of_ble_eq_true rfl) ?_
            refine g_if_ne hC dX0_addMessage_81 87 rfl 84 rfl (fun c_43 => ?_) (fun c_43 => ?_)
            · refine g_aload_n hC dX0_addMessage_87 0 rfl gRef_r 88 rfl ?_
              refine g_get (v := .ref ms) hC cI0 (hF40 _ _ _ hM_0 gno0) 2 (Nat.le_of_ble_eq_true rfl) q519 rfl dX0_addMessage_88 91 rfl ?_
              refine g_getN (v := .ref an) hC cI6 (hF40 _ _ _ hM_8 gno0) 0 (Nat.le_of_ble_eq_true rfl) q513 rfl dX0_addMessage_91 94 rfl ?_
              refine g_iload_n hC dX0_addMessage_94 1 rfl 95 rfl ?_
              refine g_callq (g_S (As := [.int (nI xn)]) (rest := [.ref an]) hC msJ11_valueOf q570 (met_valueOf l G M35 (nI xn)) ⟨rfl, rfl⟩ ⟨(Nat.le_of_ble_eq_true rfl), (Nat.le_of_ble_eq_true rfl)⟩ rfl (Nat.le_of_ble_eq_true rfl) dX0_addMessage_95 rfl ⟨(Nat.le_of_ble_eq_true rfl), (Nat.le_of_ble_eq_true rfl)⟩) 2 (Nat.le_of_ble_eq_true rfl) 2 (Nat.le_of_ble_eq_true rfl) 98 rfl (fun r47 M44 k45 hp46 => ?_)
              obtain ⟨a_48, rfl, hF49, hq50, hk51⟩ := hp46
              refine g_new hC cI13 q2629 q2630 q165 df13 (0, 4) (Nat.le_of_ble_eq_true rfl) (Nat.le_of_ble_eq_true rfl) 3 (Nat.le_of_ble_eq_true rfl) 5 (Nat.le_of_ble_eq_true rfl) dX0_addMessage_98 101 rfl (fun a52 M53 hN54 => ?_)
              have hfr9 : ∀ e9 ∈ C, e9.2 ≠ a52 := fun e9 he9 => hN54.ne ((mss.fr hP_9 ((gFr.refl.trf hF40 (fun b t e hb hn => gno0)).trf hF49 (fun b t e hb hn => gno0))) e9 he9)
              refine g_dup hC dX0_addMessage_101 rfl 102 rfl ?_
              refine g_iload_n hC dX0_addMessage_102 2 rfl 103 rfl ?_
              refine g_calliP (g_S (As := [.int (nI ln)]) (rest := [.ref a52, .ref a52, .ref a_48, .ref an]) hC msX0_worst q2620 (met_X_worst l G M53 (nI ln)) ⟨rfl, rfl⟩ ⟨(Nat.le_of_ble_eq_true rfl), (Nat.le_of_ble_eq_true rfl)⟩ rfl (Nat.le_of_ble_eq_true rfl) dX0_addMessage_103 rfl ⟨(Nat.le_of_ble_eq_true rfl), (Nat.le_of_ble_eq_true rfl)⟩) 106 rfl 5 (Nat.le_of_ble_eq_true rfl) ?_
              refine g_topi (y := nI (wN ln)) (worst_n h2) ?_
              refine g_iload_n hC dX0_addMessage_106 3 rfl 107 rfl ?_
              refine g_iload hC dX0_addMessage_107 4 rfl 109 rfl ?_
              refine g_callv (g_I (As := [.int (nI (wN ln)), .int (nI pe), .int (nI ji)]) (rest := [.ref a52, .ref a_48, .ref an]) hC miX17_init q2631 (met_Mg_init l G M53 a52 (0, 4) (nI (wN ln)) (nI pe) (nI ji) hN54.2.1) ⟨rfl, rfl⟩ ⟨(Nat.le_of_ble_eq_true rfl), (Nat.le_of_ble_eq_true rfl)⟩ rfl (Nat.le_of_ble_eq_true rfl) dX0_addMessage_109 rfl ⟨(Nat.le_of_ble_eq_true rfl), (Nat.le_of_ble_eq_true rfl)⟩) 3 (Nat.le_of_ble_eq_true rfl) 5 (Nat.le_of_ble_eq_true rfl) 112 rfl (fun M55 k56 hp57 => ?_)
              obtain ⟨hc59, hF60, hk61⟩ := hp57
              have hH62 := (hF60 _ _ _ (hN54.n (hF49 _ _ _ (hF40 _ _ _ hM_0 gno0) gno0)) (gno (hN54.ne (hF49 _ _ _ (hF40 _ _ _ hM_0 gno0) gno0)) gno0))
              have hH63 := (hF60 _ _ _ (hN54.n (hF49 _ _ _ (hF40 _ _ _ hM_8 gno0) gno0)) (gno (hN54.ne (hF49 _ _ _ (hF40 _ _ _ hM_8 gno0) gno0)) gno0))
              have hH64 : bxP M55 G a_39 (nI xn) := (bxP.fr hq41 (((gFr.refl.trf hF49 (fun b t e hb hn => gno0)).nw hN54).trf hF60 (fun b t e hb hn => (gno (hN54.ne ((gFr.refl.trf hF49 (fun b t e hb hn => gno0)) b t e hb hn)) gno0))))
              have hH65 : isTM M55 G (8, 3) (8, 4) an C := (isTM.fr hP_8 ((((gFr.refl.trf hF40 (fun b t e hb hn => gno0)).trf hF49 (fun b t e hb hn => gno0)).nw hN54).trf hF60 (fun b t e hb hn => (gno (hN54.ne (((gFr.refl.trf hF40 (fun b t e hb hn => gno0)).trf hF49 (fun b t e hb hn => gno0)) b t e hb hn)) gno0))))
              have hH66 : mss M55 C md := (mss.fr hP_9 ((((gFr.refl.trf hF40 (fun b t e hb hn => gno0)).trf hF49 (fun b t e hb hn => gno0)).nw hN54).trf hF60 (fun b t e hb hn => (gno (hN54.ne (((gFr.refl.trf hF40 (fun b t e hb hn => gno0)).trf hF49 (fun b t e hb hn => gno0)) b t e hb hn)) gno0))))
              refine g_callq (g_V (As := [.ref a_48, .ref a52]) (rest := []) hC mvJ9_put q1000 (isTM.of hC.K hH65) (met_TMap_put l G M55 an (8, 3) (8, 4) C a_48 (nI xn) a52 (by decide) (by decide) (by decide) hH65 hq50) ⟨rfl, rfl⟩ ⟨(Nat.le_of_ble_eq_true rfl), (Nat.le_of_ble_eq_true rfl)⟩ rfl (Nat.le_of_ble_eq_true rfl) dX0_addMessage_112 rfl ⟨(Nat.le_of_ble_eq_true rfl), (Nat.le_of_ble_eq_true rfl)⟩) 4 (Nat.le_of_ble_eq_true rfl) 11 (Nat.le_of_ble_eq_true rfl) 115 rfl (fun r70 M67 k68 hp69 => ?_)
              obtain ⟨rfl, hpd71, hF72, hk73⟩ := hp69
              refine g_pop hC dX0_addMessage_115 gcat_q 116 rfl ?_
              refine g_aload_n hC dX0_addMessage_116 0 rfl gRef_r 117 rfl ?_
              refine g_get (v := .ref ms) hC cI0 (hF72 _ _ _ hH62 (show ¬ (fun t => tgE (8, 3).1 (8, 3).2 t ∨ tgE (8, 4).1 (8, 4).2 t) (8, 0) by (try simp only [ndT, tgE, gT, tgR, ndT9, ndW, tg0, Prod.mk.injEq, true_and, and_true, cpyT, msT]); first | done | omega | (simp; done) | simp_all)) 2 (Nat.le_of_ble_eq_true rfl) q519 rfl dX0_addMessage_117 120 rfl ?_
              refine g_getN (v := .ref an) hC cI6 (hF72 _ _ _ hH63 (show ¬ (fun t => tgE (8, 3).1 (8, 3).2 t ∨ tgE (8, 4).1 (8, 4).2 t) (8, 2) by (try simp only [ndT, tgE, gT, tgR, ndT9, ndW, tg0, Prod.mk.injEq, true_and, and_true, cpyT, msT]); first | done | omega | (simp; done) | simp_all)) 0 (Nat.le_of_ble_eq_true rfl) q513 rfl dX0_addMessage_120 123 rfl ?_
              refine g_calliP (g_V (As := []) (rest := []) hC mvJ9_size q566 (isTM.of hC.K hpd71) (met_TMap_size l G M67 an (8, 3) (8, 4) (tput C (nI xn) a52) hpd71) ⟨rfl, rfl⟩ ⟨(Nat.le_of_ble_eq_true rfl), (Nat.le_of_ble_eq_true rfl)⟩ rfl (Nat.le_of_ble_eq_true rfl) dX0_addMessage_123 rfl ⟨(Nat.le_of_ble_eq_true rfl), (Nat.le_of_ble_eq_true rfl)⟩) 126 rfl 11 (Nat.le_of_ble_eq_true rfl) ?_
              refine g_topi (y := nI ((tput C (nI xn) a52).length)) (congrArg nI (show (tput C (nI xn) a52).length = (tput C (nI xn) a52).length by omega)) ?_
              exact g_iret (v := nI ((tput C (nI xn) a52).length)) hC (fun k9 hk9 => ⟨(by rw [(hR.put hfr9 h1 h2 h3 h4 (Or.inr ⟨hai, rfl, hax⟩)).len]), ⟨an, tput C (nI xn) a52, mdU md a52 (xn, ln, pe, ji), (hF72 _ _ _ hH63 (show ¬ (fun t => tgE (8, 3).1 (8, 3).2 t ∨ tgE (8, 4).1 (8, 4).2 t) (8, 2) by (try simp only [ndT, tgE, gT, tgR, ndT9, ndW, tg0, Prod.mk.injEq, true_and, and_true, cpyT, msT]); first | done | omega | (simp; done) | simp_all)), hpd71, (mss.put (x := nI xn) (d := (xn, ln, pe, ji)) (mss.fr hH66 (gFr.refl.trans (hF72.mono (fun b t h => by obtain ⟨u9, v9⟩ := t; revert h; (try simp only [ndT, tgE, gT, tgR, ndT9, ndW, tg0, Prod.mk.injEq, true_and, and_true, cpyT, msT]); first | done | omega | (simp; done) | (intro h; simp_all; done))))) hmo.1 hfr9 (hF72 _ _ _ hc59 (show ¬ (fun t => tgE (8, 3).1 (8, 3).2 t ∨ tgE (8, 4).1 (8, 4).2 t) (0, 4) by (try simp only [ndT, tgE, gT, tgR, ndT9, ndW, tg0, Prod.mk.injEq, true_and, and_true, cpyT, msT]); first | done | omega | (simp; done) | simp_all))), (hR.put hfr9 h1 h2 h3 h4 (Or.inr ⟨hai, rfl, hax⟩))⟩, (((((gFr.refl.trf hF40 (fun b t e hb hn => gno0)).trf hF49 (fun b t e hb hn => gno0)).nw hN54).trf hF60 (fun b t e hb hn => (gno (hN54.ne (((gFr.refl.trf hF40 (fun b t e hb hn => gno0)).trf hF49 (fun b t e hb hn => gno0)) b t e hb hn)) gno0))).trans (hF72.mono (fun b t h => by obtain ⟨u9, v9⟩ := t; revert h; (try simp only [ndT, tgE, gT, tgR, ndT9, ndW, tg0, Prod.mk.injEq, true_and, and_true, cpyT, msT]); first | done | omega | (simp; done) | (intro h; simp_all; done)))), (by first | exact Nat.le_zero.mp hk9 | omega)⟩) dX0_addMessage_126 (Nat.le_of_ble_eq_true rfl) (Nat.le_of_ble_eq_true rfl)
            · exact absurd c_43 (by rw [htg]; decide)
        · replace c_4 := bId_0 c_4
          exact absurd hP.2.2 c_4
