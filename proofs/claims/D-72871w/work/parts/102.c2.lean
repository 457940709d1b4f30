/-! PriorityQueue of frames (at most four) -/
set_option maxRecDepth 100000
abbrev pqE := Nat × frD
def pqA (L : List pqE) : Nat → Option Nat := fun i => (L[i]?).map Prod.fst
def frs (M : gM) (L : List pqE) : Prop := ∀ e ∈ L, M e.1 = some ((0, 1), .inr (8, [.int e.2.1, .int (bI e.2.2.1), .int e.2.2.2.1, .int e.2.2.2.2.1, .int e.2.2.2.2.2]))
theorem frs.fr {M M' : gM} {L : List pqE} (h : frs M L) (hF : gFr (gT (fun t => ¬ tgE 0 1 t)) M M') : frs M' L := fun e he => hF _ _ _ (h e he) (fun q => q ⟨rfl, rfl⟩)
def pqAdd (L : List pqE) (x : pqE) : List pqE := match L with
  | [] => [x]
  | [a] => if cmpF x.2 a.2 < 0 then [x, a] else [a, x]
  | [a, b] => if cmpF x.2 a.2 < 0 then [x, b, a] else [a, b, x]
  | [a, b, c] => if cmpF x.2 b.2 < 0 then (if cmpF x.2 a.2 < 0 then [x, a, c, b] else [a, x, c, b]) else [a, b, c, x]
  | l => l
set_option maxHeartbeats 4000000 in
theorem met_PQ_up_0 (l : Launch) (G : gG) (M : gM) (wq : Nat) (t1 : Nat × Nat) (xa : Nat) (dx : frD)  (hM_0 : M wq = some (t1, .inl (gcs G 3, 4, .inr (.inr (.inr (.inr (pqA []))))))) (hM_1 : M xa = some ((0, 1), .inr (8, [.int dx.1, .int (bI dx.2.1), .int dx.2.2.1, .int dx.2.2.2.1, .int dx.2.2.2.2]))) : Met l yJ6_siftUpComparable (ws_ yJ6_siftUpComparable cJ6_siftUpComparable 6 none) ({ frames := 3, cells := 0, slots := 0, locals := 80 }) (gPc G [.int (nI 0), .ref xa, .ref wq] M) (gQv G (fun M9 k9 => M9 wq = some (t1, .inl (gcs G 3, 4, .inr (.inr (.inr (.inr (pqA (pqAdd [] (xa, dx)))))))) ∧ gFr (gL [wq]) M M9 ∧ k9 = 0)) 0 0 (gA G) := by
  refine gMet [(0, .int (nI 0)), (1, .ref xa), (2, .ref wq)] (by decide) (Nat.le_of_ble_eq_true rfl) rfl ?_
  intro p e s m below meth c hC
  refine g_aload_n hC dJ6_siftUpComparable_0 1 rfl gRef_r 1 rfl ?_
  refine g_cast hC (gOf.of hC.K cI8 hM_1) q632 q1218 dJ6_siftUpComparable_1 4 rfl ?_
  refine g_astore_n hC dJ6_siftUpComparable_4 rfl gRef_r (Nat.le_of_ble_eq_true rfl) [(3, .ref xa), (0, .int (nI 0)), (1, .ref xa), (2, .ref wq)] rfl 5 rfl ?_
  refine g_iload_n hC dJ6_siftUpComparable_5 1 rfl 6 rfl ?_
  refine g_if_le hC dJ6_siftUpComparable_6 47 rfl 9 rfl (fun c_1 => ?_) (fun c_1 => ?_)
  · replace c_1 : 0 ≤ 0 := nn_le (by omega) (by omega) c_1
    refine g_aload_n hC dJ6_siftUpComparable_47 3 rfl gRef_r 48 rfl ?_
    refine g_iload_n hC dJ6_siftUpComparable_48 1 rfl 49 rfl ?_
    refine g_aload_n hC dJ6_siftUpComparable_49 0 rfl gRef_r 50 rfl ?_
    refine g_astq hC hM_0 3 rfl (gOf.of hC.K cI8 hM_1) (Or.inr q3433) (vp_in_nI (n := 0) (by first | decide | omega) (by first | decide | omega)) 0 (nI_clamp (n := 0) (by decide)) dJ6_siftUpComparable_50 51 rfl (fun M2 hU3 => ?_)
    exact g_vret hC (fun k9 hk9 => ⟨(by rw [hU3.1]; have hq : va_up (pqA []) 0 (some xa) = pqA (pqAdd [] (xa, dx)) := (by simp only [pqAdd, if_true, if_false]; funext i; rcases i with _ | _ | _ | _ | i <;> simp [va_up, pqA]); rw [hq]), (gFr.refl.up hU3 hM_0 (by simp)), (by first | exact Nat.le_zero.mp hk9 | omega)⟩) dJ6_siftUpComparable_51 (Nat.le_of_ble_eq_true rfl) (Nat.le_of_ble_eq_true rfl)
  · exact absurd (show 0 < 0 from nn_nle (by omega) (by omega) c_1) (by omega)
set_option maxHeartbeats 4000000 in
theorem met_PQ_sift_0 (l : Launch) (G : gG) (M : gM) (w : Nat) (wq : Nat) (t0 : Nat × Nat) (t1 : Nat × Nat) (mc : Int32) (xa : Nat) (dx : frD)  (hM_0 : M w = some (t0, .inr (20, [.ref wq, .int (nI 0), .null, .int mc]))) (hM_1 : M wq = some (t1, .inl (gcs G 3, 4, .inr (.inr (.inr (.inr (pqA []))))))) (hM_2 : M xa = some ((0, 1), .inr (8, [.int dx.1, .int (bI dx.2.1), .int dx.2.2.1, .int dx.2.2.2.1, .int dx.2.2.2.2]))) : Met l yJ6_siftUp (ws_ yJ6_siftUp cJ6_siftUp 3 none) ({ frames := 4, cells := 0, slots := 0, locals := 110 }) (gPc G [.ref w, .int (nI 0), .ref xa] M) (gQv G (fun M9 k9 => M9 wq = some (t1, .inl (gcs G 3, 4, .inr (.inr (.inr (.inr (pqA (pqAdd [] (xa, dx)))))))) ∧ gFr (gL [wq]) M M9 ∧ k9 = 0)) 0 0 (gA G) := by
  refine gMet [(0, .ref w), (1, .int (nI 0)), (2, .ref xa)] (by decide) (Nat.le_of_ble_eq_true rfl) rfl ?_
  intro p e s m below meth c hC
  refine g_aload_n hC dJ6_siftUp_0 0 rfl gRef_r 1 rfl ?_
  refine g_get (v := .null) hC cI20 hM_0 2 (Nat.le_of_ble_eq_true rfl) q294 rfl dJ6_siftUp_1 4 rfl ?_
  refine g_ifnull (r := none) hC dJ6_siftUp_4 23 rfl 7 rfl (fun _ => ?_) (fun _ q => by cases q)
  refine g_iload_n hC dJ6_siftUp_23 1 rfl 24 rfl ?_
  refine g_aload_n hC dJ6_siftUp_24 2 rfl gRef_r 25 rfl ?_
  refine g_aload_n hC dJ6_siftUp_25 0 rfl gRef_r 26 rfl ?_
  refine g_get (v := .ref wq) hC cI20 hM_0 0 (Nat.le_of_ble_eq_true rfl) q291 rfl dJ6_siftUp_26 29 rfl ?_
  refine g_callv (g_S (As := [.int (nI 0), .ref xa, .ref wq]) (rest := []) hC msJ6_siftUpComparable q1215 (met_PQ_up_0 l G M wq t1 xa dx hM_1 hM_2) ⟨rfl, rfl⟩ ⟨(Nat.le_of_ble_eq_true rfl), (Nat.le_of_ble_eq_true rfl)⟩ rfl (Nat.le_of_ble_eq_true rfl) dJ6_siftUp_29 rfl ⟨(Nat.le_of_ble_eq_true rfl), (Nat.le_of_ble_eq_true rfl)⟩) 0 (Nat.le_of_ble_eq_true rfl) 0 (Nat.le_of_ble_eq_true rfl) 32 rfl (fun M2 k3 hp4 => ?_)
  obtain ⟨hc6, hF7, hk8⟩ := hp4
  exact g_vret hC (fun k9 hk9 => ⟨hc6, (gFr.refl.trans (hF7.mono (by intro b t hb; simp at hb ⊢; first | done | (rcases hb with rfl | rfl | rfl | rfl <;> simp) | (simp [hb]; done)))), (by first | exact Nat.le_zero.mp hk9 | omega)⟩) dJ6_siftUp_32 (Nat.le_of_ble_eq_true rfl) (Nat.le_of_ble_eq_true rfl)
set_option maxHeartbeats 4000000 in
theorem met_PQ_offer_0 (l : Launch) (G : gG) (M : gM) (w : Nat) (wq : Nat) (t0 : Nat × Nat) (t1 : Nat × Nat) (mc : Int32) (xa : Nat) (dx : frD)  (hM_0 : M w = some (t0, .inr (20, [.ref wq, .int (nI 0), .null, .int mc]))) (hM_1 : M wq = some (t1, .inl (gcs G 3, 4, .inr (.inr (.inr (.inr (pqA []))))))) (hM_2 : M xa = some ((0, 1), .inr (8, [.int dx.1, .int (bI dx.2.1), .int dx.2.2.1, .int dx.2.2.2.1, .int dx.2.2.2.2]))) : Met l yJ6_offer (ws_ yJ6_offer cJ6_offer 3 (some .boolean)) ({ frames := 5, cells := 0, slots := 0, locals := 140 }) (gPc G [.ref w, .ref xa] M) (gQi G (fun r9 M9 k9 => r9 = 1 ∧ M9 w = some (t0, .inr (20, [.ref wq, .int (nI 1), .null, .int (mc + 1)])) ∧ M9 wq = some (t1, .inl (gcs G 3, 4, .inr (.inr (.inr (.inr (pqA (pqAdd [] (xa, dx)))))))) ∧ gFr (gL [w, wq]) M M9 ∧ k9 = 0)) 0 0 (gA G) := by
  refine gMet [(0, .ref w), (1, .ref xa)] (by decide) (Nat.le_of_ble_eq_true rfl) rfl ?_
  intro p e s m below meth c hC
  refine g_aload_n hC dJ6_offer_0 1 rfl gRef_r 1 rfl ?_
  refine g_ifnonnull (r := some xa) hC dJ6_offer_1 12 rfl 4 rfl (fun _ _ => ?_) (fun q => by cases q)
  refine g_aload_n hC dJ6_offer_12 0 rfl gRef_r 13 rfl ?_
  refine g_dup hC dJ6_offer_13 rfl 14 rfl ?_
  refine g_get (v := .int mc) hC cI20 hM_0 3 (Nat.le_of_ble_eq_true rfl) q296 rfl dJ6_offer_14 17 rfl ?_
  refine g_iconst hC dJ6_offer_17 ki_1 18 rfl ?_
  refine g_iadd hC dJ6_offer_18 19 rfl ?_
  refine g_put hC cI20 hM_0 3 (Nat.le_of_ble_eq_true rfl) q296 rfl rfl rfl (Nat.le_of_ble_eq_true rfl) dJ6_offer_19 (fs' := [.ref wq, .int (nI 0), .null, .int (mc + 1)]) rfl 22 rfl (fun M2 hU3 => ?_)
  refine g_aload_n hC dJ6_offer_22 0 rfl gRef_r 23 rfl ?_
  refine g_get (v := .int (nI 0)) hC cI20 hU3.1 1 (Nat.le_of_ble_eq_true rfl) q293 rfl dJ6_offer_23 26 rfl ?_
  refine g_istore_n hC dJ6_offer_26 rfl (Nat.le_of_ble_eq_true rfl) [(2, .int (nI 0)), (0, .ref w), (1, .ref xa)] rfl 27 rfl ?_
  refine g_iload_n hC dJ6_offer_27 0 rfl 28 rfl ?_
  refine g_aload_n hC dJ6_offer_28 1 rfl gRef_r 29 rfl ?_
  refine g_get (v := .ref wq) hC cI20 hU3.1 0 (Nat.le_of_ble_eq_true rfl) q291 rfl dJ6_offer_29 32 rfl ?_
  refine g_alen (v := nI 4) hC (hU3.n (gne_ao hM_1 hM_0) hM_1) 3 rfl rfl dJ6_offer_32 33 rfl ?_
  refine g_icmp_lt hC dJ6_offer_33 43 rfl 36 rfl (fun c_4 => ?_) (fun c_4 => ?_)
  · replace c_4 : 0 < 4 := nn_lt (by omega) (by omega) c_4
    refine g_aload_n hC dJ6_offer_43 1 rfl gRef_r 44 rfl ?_
    refine g_iload_n hC dJ6_offer_44 0 rfl 45 rfl ?_
    refine g_aload_n hC dJ6_offer_45 2 rfl gRef_r 46 rfl ?_
    refine g_callv (g_V (As := [.int (nI 0), .ref xa]) (rest := []) hC mvJ6_siftUp q1206 (gOf.of hC.K cI20 hU3.1) (met_PQ_sift_0 l G M2 w wq t0 t1 (mc + 1) xa dx hU3.1 (hU3.n (gne_ao hM_1 hM_0) hM_1) (hU3.n (gne_c hM_2 hM_0 (by decide)) hM_2)) ⟨rfl, rfl⟩ ⟨(Nat.le_of_ble_eq_true rfl), (Nat.le_of_ble_eq_true rfl)⟩ rfl (Nat.le_of_ble_eq_true rfl) dJ6_offer_46 rfl ⟨(Nat.le_of_ble_eq_true rfl), (Nat.le_of_ble_eq_true rfl)⟩) 0 (Nat.le_of_ble_eq_true rfl) 0 (Nat.le_of_ble_eq_true rfl) 49 rfl (fun M5 k6 hp7 => ?_)
    obtain ⟨hc9, hF10, hk11⟩ := hp7
    refine g_aload_n hC dJ6_offer_49 1 rfl gRef_r 50 rfl ?_
    refine g_iload_n hC dJ6_offer_50 0 rfl 51 rfl ?_
    refine g_iconst hC dJ6_offer_51 ki_1 52 rfl ?_
    refine g_iadd hC dJ6_offer_52 53 rfl ?_
    refine g_topi (y := 1) (nI_a (a := 0) (b := 1) (c := 1) (by omega)) ?_
    refine g_put hC cI20 (hF10 _ _ _ hU3.1 (gno (gne_oa hU3.1 (hU3.n (gne_ao hM_1 hM_0) hM_1)) gno0)) 1 (Nat.le_of_ble_eq_true rfl) q293 rfl rfl rfl (Nat.le_of_ble_eq_true rfl) dJ6_offer_53 (fs' := [.ref wq, .int 1, .null, .int (mc + 1)]) rfl 56 rfl (fun M12 hU13 => ?_)
    have hH14 := (hU13.n (gne_ao hc9 (hF10 _ _ _ hU3.1 (gno (gne_oa hU3.1 (hU3.n (gne_ao hM_1 hM_0) hM_1)) gno0))) hc9)
    have hH15 := (hU13.n (gne_c (hF10 _ _ _ (hU3.n (gne_c hM_2 hM_0 (by decide)) hM_2) (gno (gne_oa (hU3.n (gne_c hM_2 hM_0 (by decide)) hM_2) (hU3.n (gne_ao hM_1 hM_0) hM_1)) gno0)) (hF10 _ _ _ hU3.1 (gno (gne_oa hU3.1 (hU3.n (gne_ao hM_1 hM_0) hM_1)) gno0)) (by decide)) (hF10 _ _ _ (hU3.n (gne_c hM_2 hM_0 (by decide)) hM_2) (gno (gne_oa (hU3.n (gne_c hM_2 hM_0 (by decide)) hM_2) (hU3.n (gne_ao hM_1 hM_0) hM_1)) gno0)))
    refine g_iconst hC dJ6_offer_56 ki_1 57 rfl ?_
    exact g_zret (v := 1) hC (by decide) (fun k9 hk9 => ⟨rfl, (by rw [hU13.1]; all_goals (first | rfl | (simp only [eq_true c_4, if_true, if_false, true_and, and_true, false_and, and_false, true_or, or_true, false_or, or_false, not_true_eq_false, not_false_eq_true, reduceIte, decide_true, decide_false, Bool.false_eq_true]; done) | (simp only [eq_true c_4, if_true, if_false, true_and, and_true, false_and, and_false, true_or, or_true, false_or, or_false, not_true_eq_false, not_false_eq_true, reduceIte, decide_true, decide_false, Bool.false_eq_true]; rfl) | (simp only [c_4, if_true, if_false, true_and, and_true, false_and, and_false, true_or, or_true, false_or, or_false, not_true_eq_false, not_false_eq_true, reduceIte, decide_true, decide_false, Bool.false_eq_true]; done) | (simp only []; simp only [if_true, if_false, true_and, and_true, false_and, and_false, true_or, or_true, false_or, or_false, not_true_eq_false, not_false_eq_true, reduceIte, decide_true, decide_false, Bool.false_eq_true, eq_true c_4]; done) | (simp only []; simp only [if_true, if_false, true_and, and_true, false_and, and_false, true_or, or_true, false_or, or_false, not_true_eq_false, not_false_eq_true, reduceIte, decide_true, decide_false, Bool.false_eq_true, c_4]; done) | (simp only []; simp only [if_true, if_false, true_and, and_true, false_and, and_false, true_or, or_true, false_or, or_false, not_true_eq_false, not_false_eq_true, reduceIte, decide_true, decide_false, Bool.false_eq_true, c_4]; simp only []; done) | (simp only [c_4, if_true, if_false, true_and, and_true, false_and, and_false, true_or, or_true, false_or, or_false, not_true_eq_false, not_false_eq_true, reduceIte, decide_true, decide_false, Bool.false_eq_true]; rfl) | (simp only []; simp only [if_true, if_false, true_and, and_true, false_and, and_false, true_or, or_true, false_or, or_false, not_true_eq_false, not_false_eq_true, reduceIte, decide_true, decide_false, Bool.false_eq_true, c_4]; rfl) | (simp only []; rfl) | (simp only [c_4, if_true, if_false, true_and, and_true, false_and, and_false, true_or, or_true, false_or, or_false, not_true_eq_false, not_false_eq_true, reduceIte, decide_true, decide_false, Bool.false_eq_true]; rfl) | (simp_all []; done))), hH14, (((gFr.refl.up hU3 hM_0 (by simp)).trans (hF10.mono (by intro b t hb; simp at hb ⊢; first | done | (rcases hb with rfl | rfl | rfl | rfl <;> simp) | (simp [hb]; done)))).up hU13 (hF10 _ _ _ hU3.1 (gno (gne_oa hU3.1 (hU3.n (gne_ao hM_1 hM_0) hM_1)) gno0)) (by simp)), (by first | exact Nat.le_zero.mp hk9 | omega)⟩) dJ6_offer_57 (Nat.le_of_ble_eq_true rfl) (Nat.le_of_ble_eq_true rfl)
  · exact absurd (show 4 ≤ 0 from nn_nlt (by omega) (by omega) c_4) (by omega)
set_option maxHeartbeats 4000000 in
theorem met_PQ_add_0 (l : Launch) (G : gG) (M : gM) (w : Nat) (wq : Nat) (t0 : Nat × Nat) (t1 : Nat × Nat) (mc : Int32) (xa : Nat) (dx : frD)  (hM_0 : M w = some (t0, .inr (20, [.ref wq, .int (nI 0), .null, .int mc]))) (hM_1 : M wq = some (t1, .inl (gcs G 3, 4, .inr (.inr (.inr (.inr (pqA []))))))) (hM_2 : M xa = some ((0, 1), .inr (8, [.int dx.1, .int (bI dx.2.1), .int dx.2.2.1, .int dx.2.2.2.1, .int dx.2.2.2.2]))) : Met l yJ6_add (ws_ yJ6_add cJ6_add 2 (some .boolean)) ({ frames := 6, cells := 0, slots := 0, locals := 165 }) (gPc G [.ref w, .ref xa] M) (gQi G (fun r9 M9 k9 => r9 = 1 ∧ M9 w = some (t0, .inr (20, [.ref wq, .int (nI 1), .null, .int (mc + 1)])) ∧ M9 wq = some (t1, .inl (gcs G 3, 4, .inr (.inr (.inr (.inr (pqA (pqAdd [] (xa, dx)))))))) ∧ gFr (gL [w, wq]) M M9 ∧ k9 = 0)) 0 0 (gA G) := by
  refine gMet [(0, .ref w), (1, .ref xa)] (by decide) (Nat.le_of_ble_eq_true rfl) rfl ?_
  intro p e s m below meth c hC
  refine g_aload_n hC dJ6_add_0 0 rfl gRef_r 1 rfl ?_
  refine g_aload_n hC dJ6_add_1 1 rfl gRef_r 2 rfl ?_
  refine g_calli (g_V (As := [.ref xa]) (rest := []) hC mvJ6_offer q1175 (gOf.of hC.K cI20 hM_0) (met_PQ_offer_0 l G M w wq t0 t1 mc xa dx hM_0 hM_1 hM_2) ⟨rfl, rfl⟩ ⟨(Nat.le_of_ble_eq_true rfl), (Nat.le_of_ble_eq_true rfl)⟩ rfl (Nat.le_of_ble_eq_true rfl) dJ6_add_2 rfl ⟨(Nat.le_of_ble_eq_true rfl), (Nat.le_of_ble_eq_true rfl)⟩) 0 (Nat.le_of_ble_eq_true rfl) 0 (Nat.le_of_ble_eq_true rfl) 5 rfl (fun r4 M1 k2 hp3 => ?_)
  obtain ⟨rfl, hc5, hc6, hF7, hk8⟩ := hp3
  exact g_zret (v := 1) hC (by decide) (fun k9 hk9 => ⟨rfl, hc5, hc6, (gFr.refl.trans (hF7.mono (by intro b t hb; simp at hb ⊢; first | done | (rcases hb with rfl | rfl | rfl | rfl <;> simp) | (simp [hb]; done)))), (by first | exact Nat.le_zero.mp hk9 | omega)⟩) dJ6_add_5 (Nat.le_of_ble_eq_true rfl) (Nat.le_of_ble_eq_true rfl)
set_option maxHeartbeats 4000000 in
theorem met_PQ_up_1 (l : Launch) (G : gG) (M : gM) (wq : Nat) (t1 : Nat × Nat) (xa : Nat) (dx : frD) (a0 : Nat) (d0 : frD)  (hM_0 : M wq = some (t1, .inl (gcs G 3, 4, .inr (.inr (.inr (.inr (pqA [(a0, d0)]))))))) (hM_1 : M xa = some ((0, 1), .inr (8, [.int dx.1, .int (bI dx.2.1), .int dx.2.2.1, .int dx.2.2.2.1, .int dx.2.2.2.2]))) (hM_2 : M a0 = some ((0, 1), .inr (8, [.int d0.1, .int (bI d0.2.1), .int d0.2.2.1, .int d0.2.2.2.1, .int d0.2.2.2.2]))) : Met l yJ6_siftUpComparable (ws_ yJ6_siftUpComparable cJ6_siftUpComparable 6 none) ({ frames := 3, cells := 0, slots := 0, locals := 80 }) (gPc G [.int (nI 1), .ref xa, .ref wq] M) (gQv G (fun M9 k9 => M9 wq = some (t1, .inl (gcs G 3, 4, .inr (.inr (.inr (.inr (pqA (pqAdd [(a0, d0)] (xa, dx)))))))) ∧ gFr (gL [wq]) M M9 ∧ k9 = 0)) 0 0 (gA G) := by
  refine gMet [(0, .int (nI 1)), (1, .ref xa), (2, .ref wq)] (by decide) (Nat.le_of_ble_eq_true rfl) rfl ?_
  intro p e s m below meth c hC
  refine g_aload_n hC dJ6_siftUpComparable_0 1 rfl gRef_r 1 rfl ?_
  refine g_cast hC (gOf.of hC.K cI8 hM_1) q632 q1218 dJ6_siftUpComparable_1 4 rfl ?_
  refine g_astore_n hC dJ6_siftUpComparable_4 rfl gRef_r (Nat.le_of_ble_eq_true rfl) [(3, .ref xa), (0, .int (nI 1)), (1, .ref xa), (2, .ref wq)] rfl 5 rfl ?_
  refine g_iload_n hC dJ6_siftUpComparable_5 1 rfl 6 rfl ?_
  refine g_if_le hC dJ6_siftUpComparable_6 47 rfl 9 rfl (fun c_1 => ?_) (fun c_1 => ?_)
  · exact absurd (show 1 ≤ 0 from nn_le (by omega) (by omega) c_1) (by omega)
  · replace c_1 : 0 < 1 := nn_nle (by omega) (by omega) c_1
    refine g_iload_n hC dJ6_siftUpComparable_9 1 rfl 10 rfl ?_
    refine g_iconst hC dJ6_siftUpComparable_10 ki_1 11 rfl ?_
    refine g_isub hC dJ6_siftUpComparable_11 12 rfl ?_
    refine g_topi (y := 0) (nI_s (a := 1) (b := 1) (c := 0) (by omega)) ?_
    refine g_iconst hC dJ6_siftUpComparable_12 ki_1 13 rfl ?_
    refine g_iushr (v := 0) hC dJ6_siftUpComparable_13 (by decide) 14 rfl ?_
    refine g_istore hC dJ6_siftUpComparable_14 (Nat.le_of_ble_eq_true rfl) [(4, .int 0), (3, .ref xa), (0, .int (nI 1)), (1, .ref xa), (2, .ref wq)] rfl 16 rfl ?_
    refine g_aload_n hC dJ6_siftUpComparable_16 4 rfl gRef_r 17 rfl ?_
    refine g_iload hC dJ6_siftUpComparable_17 0 rfl 19 rfl ?_
    refine g_aldq (r := some a0) hC hM_0 3 rfl (vp_in_nI (n := 0) (by first | decide | omega) (by first | decide | omega)) ((congrArg (pqA [(a0, d0)]) (nI_clamp (n := 0) (by decide))).trans rfl) dJ6_siftUpComparable_19 20 rfl ?_
    refine g_astore hC dJ6_siftUpComparable_20 gRef_r (Nat.le_of_ble_eq_true rfl) [(5, .ref a0), (4, .int 0), (3, .ref xa), (0, .int (nI 1)), (1, .ref xa), (2, .ref wq)] rfl 22 rfl ?_
    refine g_aload_n hC dJ6_siftUpComparable_22 2 rfl gRef_r 23 rfl ?_
    refine g_aload hC dJ6_siftUpComparable_23 0 rfl gRef_r 25 rfl ?_
    refine g_callFiP (g_F (n := 1) (As := [.ref a0]) (rest := []) hC ⟨by decide +kernel, q633, q635, q121, q637, by decide +kernel⟩ q1220 (gOf.of hC.K cI8 hM_1) (hC.at cI8) (met_Fr_cmp l G M xa a0 dx d0 hM_1 hM_2) ⟨rfl, rfl⟩ ⟨(Nat.le_of_ble_eq_true rfl), (Nat.le_of_ble_eq_true rfl)⟩ rfl (Nat.le_of_ble_eq_true rfl) dJ6_siftUpComparable_25 rfl ⟨(Nat.le_of_ble_eq_true rfl), (Nat.le_of_ble_eq_true rfl)⟩) 30 rfl 0 (Nat.le_of_ble_eq_true rfl) ?_
    refine g_if_lt hC dJ6_siftUpComparable_30 36 rfl 33 rfl (fun c_2 => ?_) (fun c_2 => ?_)
    · refine g_aload_n hC dJ6_siftUpComparable_36 5 rfl gRef_r 37 rfl ?_
      refine g_iload_n hC dJ6_siftUpComparable_37 3 rfl 38 rfl ?_
      refine g_aload hC dJ6_siftUpComparable_38 0 rfl gRef_r 40 rfl ?_
      refine g_astq hC hM_0 3 rfl (gOf.of hC.K cI8 hM_2) (Or.inr q3433) (vp_in_nI (n := 1) (by first | decide | omega) (by first | decide | omega)) 1 (nI_clamp (n := 1) (by decide)) dJ6_siftUpComparable_40 41 rfl (fun M3 hU4 => ?_)
      refine g_iload hC dJ6_siftUpComparable_41 1 rfl 43 rfl ?_
      refine g_istore_n hC dJ6_siftUpComparable_43 rfl (Nat.le_of_ble_eq_true rfl) [(0, .int 0), (5, .ref a0), (4, .int 0), (3, .ref xa), (1, .ref xa), (2, .ref wq)] rfl 44 rfl ?_
      refine g_goto hC dJ6_siftUpComparable_44 5 rfl ?_
      refine g_iload_n hC dJ6_siftUpComparable_5 0 rfl 6 rfl ?_
      refine g_if_le hC dJ6_siftUpComparable_6 47 rfl 9 rfl (fun c_5 => ?_) (fun c_5 => ?_)
      · refine g_aload_n hC dJ6_siftUpComparable_47 5 rfl gRef_r 48 rfl ?_
        refine g_iload_n hC dJ6_siftUpComparable_48 0 rfl 49 rfl ?_
        refine g_aload_n hC dJ6_siftUpComparable_49 3 rfl gRef_r 50 rfl ?_
        refine g_astq hC hU4.1 3 rfl (gOf.of hC.K cI8 (hU4.n (gne_oa hM_1 hM_0) hM_1)) (Or.inr q3433) (vp_in_nI (n := 0) (by first | decide | omega) (by first | decide | omega)) 0 (nI_clamp (n := 0) (by decide)) dJ6_siftUpComparable_50 51 rfl (fun M6 hU7 => ?_)
        exact g_vret hC (fun k9 hk9 => ⟨(by rw [hU7.1]; have hq : va_up (va_up (pqA [(a0, d0)]) 1 (some a0)) 0 (some xa) = pqA (pqAdd [(a0, d0)] (xa, dx)) := (by simp only [pqAdd, eq_true c_2, if_true, if_false]; funext i; rcases i with _ | _ | _ | _ | i <;> simp [va_up, pqA]); rw [hq]), ((gFr.refl.up hU4 hM_0 (by simp)).up hU7 hU4.1 (by simp)), (by first | exact Nat.le_zero.mp hk9 | omega)⟩) dJ6_siftUpComparable_51 (Nat.le_of_ble_eq_true rfl) (Nat.le_of_ble_eq_true rfl)
      · exact absurd c_5 (by decide)
    · refine g_goto hC dJ6_siftUpComparable_33 47 rfl ?_
      refine g_aload_n hC dJ6_siftUpComparable_47 5 rfl gRef_r 48 rfl ?_
      refine g_iload_n hC dJ6_siftUpComparable_48 3 rfl 49 rfl ?_
      refine g_aload_n hC dJ6_siftUpComparable_49 2 rfl gRef_r 50 rfl ?_
      refine g_astq hC hM_0 3 rfl (gOf.of hC.K cI8 hM_1) (Or.inr q3433) (vp_in_nI (n := 1) (by first | decide | omega) (by first | decide | omega)) 1 (nI_clamp (n := 1) (by decide)) dJ6_siftUpComparable_50 51 rfl (fun M8 hU9 => ?_)
      exact g_vret hC (fun k9 hk9 => ⟨(by rw [hU9.1]; have hq : va_up (pqA [(a0, d0)]) 1 (some xa) = pqA (pqAdd [(a0, d0)] (xa, dx)) := (by simp only [pqAdd, eq_false c_2, if_true, if_false]; funext i; rcases i with _ | _ | _ | _ | i <;> simp [va_up, pqA]); rw [hq]), (gFr.refl.up hU9 hM_0 (by simp)), (by first | exact Nat.le_zero.mp hk9 | omega)⟩) dJ6_siftUpComparable_51 (Nat.le_of_ble_eq_true rfl) (Nat.le_of_ble_eq_true rfl)
set_option maxHeartbeats 4000000 in
theorem met_PQ_sift_1 (l : Launch) (G : gG) (M : gM) (w : Nat) (wq : Nat) (t0 : Nat × Nat) (t1 : Nat × Nat) (mc : Int32) (xa : Nat) (dx : frD) (a0 : Nat) (d0 : frD)  (hM_0 : M w = some (t0, .inr (20, [.ref wq, .int (nI 1), .null, .int mc]))) (hM_1 : M wq = some (t1, .inl (gcs G 3, 4, .inr (.inr (.inr (.inr (pqA [(a0, d0)]))))))) (hM_2 : M xa = some ((0, 1), .inr (8, [.int dx.1, .int (bI dx.2.1), .int dx.2.2.1, .int dx.2.2.2.1, .int dx.2.2.2.2]))) (hM_3 : M a0 = some ((0, 1), .inr (8, [.int d0.1, .int (bI d0.2.1), .int d0.2.2.1, .int d0.2.2.2.1, .int d0.2.2.2.2]))) : Met l yJ6_siftUp (ws_ yJ6_siftUp cJ6_siftUp 3 none) ({ frames := 4, cells := 0, slots := 0, locals := 110 }) (gPc G [.ref w, .int (nI 1), .ref xa] M) (gQv G (fun M9 k9 => M9 wq = some (t1, .inl (gcs G 3, 4, .inr (.inr (.inr (.inr (pqA (pqAdd [(a0, d0)] (xa, dx)))))))) ∧ gFr (gL [wq]) M M9 ∧ k9 = 0)) 0 0 (gA G) := by
  refine gMet [(0, .ref w), (1, .int (nI 1)), (2, .ref xa)] (by decide) (Nat.le_of_ble_eq_true rfl) rfl ?_
  intro p e s m below meth c hC
  refine g_aload_n hC dJ6_siftUp_0 0 rfl gRef_r 1 rfl ?_
  refine g_get (v := .null) hC cI20 hM_0 2 (Nat.le_of_ble_eq_true rfl) q294 rfl dJ6_siftUp_1 4 rfl ?_
  refine g_ifnull (r := none) hC dJ6_siftUp_4 23 rfl 7 rfl (fun _ => ?_) (fun _ q => by cases q)
  refine g_iload_n hC dJ6_siftUp_23 1 rfl 24 rfl ?_
  refine g_aload_n hC dJ6_siftUp_24 2 rfl gRef_r 25 rfl ?_
  refine g_aload_n hC dJ6_siftUp_25 0 rfl gRef_r 26 rfl ?_
  refine g_get (v := .ref wq) hC cI20 hM_0 0 (Nat.le_of_ble_eq_true rfl) q291 rfl dJ6_siftUp_26 29 rfl ?_
  refine g_callv (g_S (As := [.int (nI 1), .ref xa, .ref wq]) (rest := []) hC msJ6_siftUpComparable q1215 (met_PQ_up_1 l G M wq t1 xa dx a0 d0 hM_1 hM_2 hM_3) ⟨rfl, rfl⟩ ⟨(Nat.le_of_ble_eq_true rfl), (Nat.le_of_ble_eq_true rfl)⟩ rfl (Nat.le_of_ble_eq_true rfl) dJ6_siftUp_29 rfl ⟨(Nat.le_of_ble_eq_true rfl), (Nat.le_of_ble_eq_true rfl)⟩) 0 (Nat.le_of_ble_eq_true rfl) 0 (Nat.le_of_ble_eq_true rfl) 32 rfl (fun M2 k3 hp4 => ?_)
  obtain ⟨hc6, hF7, hk8⟩ := hp4
  exact g_vret hC (fun k9 hk9 => ⟨hc6, (gFr.refl.trans (hF7.mono (by intro b t hb; simp at hb ⊢; first | done | (rcases hb with rfl | rfl | rfl | rfl <;> simp) | (simp [hb]; done)))), (by first | exact Nat.le_zero.mp hk9 | omega)⟩) dJ6_siftUp_32 (Nat.le_of_ble_eq_true rfl) (Nat.le_of_ble_eq_true rfl)
set_option maxHeartbeats 4000000 in
theorem met_PQ_offer_1 (l : Launch) (G : gG) (M : gM) (w : Nat) (wq : Nat) (t0 : Nat × Nat) (t1 : Nat × Nat) (mc : Int32) (xa : Nat) (dx : frD) (a0 : Nat) (d0 : frD)  (hM_0 : M w = some (t0, .inr (20, [.ref wq, .int (nI 1), .null, .int mc]))) (hM_1 : M wq = some (t1, .inl (gcs G 3, 4, .inr (.inr (.inr (.inr (pqA [(a0, d0)]))))))) (hM_2 : M xa = some ((0, 1), .inr (8, [.int dx.1, .int (bI dx.2.1), .int dx.2.2.1, .int dx.2.2.2.1, .int dx.2.2.2.2]))) (hM_3 : M a0 = some ((0, 1), .inr (8, [.int d0.1, .int (bI d0.2.1), .int d0.2.2.1, .int d0.2.2.2.1, .int d0.2.2.2.2]))) : Met l yJ6_offer (ws_ yJ6_offer cJ6_offer 3 (some .boolean)) ({ frames := 5, cells := 0, slots := 0, locals := 140 }) (gPc G [.ref w, .ref xa] M) (gQi G (fun r9 M9 k9 => r9 = 1 ∧ M9 w = some (t0, .inr (20, [.ref wq, .int (nI 2), .null, .int (mc + 1)])) ∧ M9 wq = some (t1, .inl (gcs G 3, 4, .inr (.inr (.inr (.inr (pqA (pqAdd [(a0, d0)] (xa, dx)))))))) ∧ gFr (gL [w, wq]) M M9 ∧ k9 = 0)) 0 0 (gA G) := by
  refine gMet [(0, .ref w), (1, .ref xa)] (by decide) (Nat.le_of_ble_eq_true rfl) rfl ?_
  intro p e s m below meth c hC
  refine g_aload_n hC dJ6_offer_0 1 rfl gRef_r 1 rfl ?_
  refine g_ifnonnull (r := some xa) hC dJ6_offer_1 12 rfl 4 rfl (fun _ _ => ?_) (fun q => by cases q)
  refine g_aload_n hC dJ6_offer_12 0 rfl gRef_r 13 rfl ?_
  refine g_dup hC dJ6_offer_13 rfl 14 rfl ?_
  refine g_get (v := .int mc) hC cI20 hM_0 3 (Nat.le_of_ble_eq_true rfl) q296 rfl dJ6_offer_14 17 rfl ?_
  refine g_iconst hC dJ6_offer_17 ki_1 18 rfl ?_
  refine g_iadd hC dJ6_offer_18 19 rfl ?_
  refine g_put hC cI20 hM_0 3 (Nat.le_of_ble_eq_true rfl) q296 rfl rfl rfl (Nat.le_of_ble_eq_true rfl) dJ6_offer_19 (fs' := [.ref wq, .int (nI 1), .null, .int (mc + 1)]) rfl 22 rfl (fun M2 hU3 => ?_)
  refine g_aload_n hC dJ6_offer_22 0 rfl gRef_r 23 rfl ?_
  refine g_get (v := .int (nI 1)) hC cI20 hU3.1 1 (Nat.le_of_ble_eq_true rfl) q293 rfl dJ6_offer_23 26 rfl ?_
  refine g_istore_n hC dJ6_offer_26 rfl (Nat.le_of_ble_eq_true rfl) [(2, .int (nI 1)), (0, .ref w), (1, .ref xa)] rfl 27 rfl ?_
  refine g_iload_n hC dJ6_offer_27 0 rfl 28 rfl ?_
  refine g_aload_n hC dJ6_offer_28 1 rfl gRef_r 29 rfl ?_
  refine g_get (v := .ref wq) hC cI20 hU3.1 0 (Nat.le_of_ble_eq_true rfl) q291 rfl dJ6_offer_29 32 rfl ?_
  refine g_alen (v := nI 4) hC (hU3.n (gne_ao hM_1 hM_0) hM_1) 3 rfl rfl dJ6_offer_32 33 rfl ?_
  refine g_icmp_lt hC dJ6_offer_33 43 rfl 36 rfl (fun c_4 => ?_) (fun c_4 => ?_)
  · replace c_4 : 1 < 4 := nn_lt (by omega) (by omega) c_4
    refine g_aload_n hC dJ6_offer_43 1 rfl gRef_r 44 rfl ?_
    refine g_iload_n hC dJ6_offer_44 0 rfl 45 rfl ?_
    refine g_aload_n hC dJ6_offer_45 2 rfl gRef_r 46 rfl ?_
    refine g_callv (g_V (As := [.int (nI 1), .ref xa]) (rest := []) hC mvJ6_siftUp q1206 (gOf.of hC.K cI20 hU3.1) (met_PQ_sift_1 l G M2 w wq t0 t1 (mc + 1) xa dx a0 d0 hU3.1 (hU3.n (gne_ao hM_1 hM_0) hM_1) (hU3.n (gne_c hM_2 hM_0 (by decide)) hM_2) (hU3.n (gne_c hM_3 hM_0 (by decide)) hM_3)) ⟨rfl, rfl⟩ ⟨(Nat.le_of_ble_eq_true rfl), (Nat.le_of_ble_eq_true rfl)⟩ rfl (Nat.le_of_ble_eq_true rfl) dJ6_offer_46 rfl ⟨(Nat.le_of_ble_eq_true rfl), (Nat.le_of_ble_eq_true rfl)⟩) 0 (Nat.le_of_ble_eq_true rfl) 0 (Nat.le_of_ble_eq_true rfl) 49 rfl (fun M5 k6 hp7 => ?_)
    obtain ⟨hc9, hF10, hk11⟩ := hp7
    refine g_aload_n hC dJ6_offer_49 1 rfl gRef_r 50 rfl ?_
    refine g_iload_n hC dJ6_offer_50 0 rfl 51 rfl ?_
    refine g_iconst hC dJ6_offer_51 ki_1 52 rfl ?_
    refine g_iadd hC dJ6_offer_52 53 rfl ?_
    refine g_topi (y := 2) (nI_a (a := 1) (b := 1) (c := 2) (by omega)) ?_
    refine g_put hC cI20 (hF10 _ _ _ hU3.1 (gno (gne_oa hU3.1 (hU3.n (gne_ao hM_1 hM_0) hM_1)) gno0)) 1 (Nat.le_of_ble_eq_true rfl) q293 rfl rfl rfl (Nat.le_of_ble_eq_true rfl) dJ6_offer_53 (fs' := [.ref wq, .int 2, .null, .int (mc + 1)]) rfl 56 rfl (fun M12 hU13 => ?_)
    have hH14 := (hU13.n (gne_ao hc9 (hF10 _ _ _ hU3.1 (gno (gne_oa hU3.1 (hU3.n (gne_ao hM_1 hM_0) hM_1)) gno0))) hc9)
    have hH15 := (hU13.n (gne_c (hF10 _ _ _ (hU3.n (gne_c hM_2 hM_0 (by decide)) hM_2) (gno (gne_oa (hU3.n (gne_c hM_2 hM_0 (by decide)) hM_2) (hU3.n (gne_ao hM_1 hM_0) hM_1)) gno0)) (hF10 _ _ _ hU3.1 (gno (gne_oa hU3.1 (hU3.n (gne_ao hM_1 hM_0) hM_1)) gno0)) (by decide)) (hF10 _ _ _ (hU3.n (gne_c hM_2 hM_0 (by decide)) hM_2) (gno (gne_oa (hU3.n (gne_c hM_2 hM_0 (by decide)) hM_2) (hU3.n (gne_ao hM_1 hM_0) hM_1)) gno0)))
    have hH16 := (hU13.n (gne_c (hF10 _ _ _ (hU3.n (gne_c hM_3 hM_0 (by decide)) hM_3) (gno (gne_oa (hU3.n (gne_c hM_3 hM_0 (by decide)) hM_3) (hU3.n (gne_ao hM_1 hM_0) hM_1)) gno0)) (hF10 _ _ _ hU3.1 (gno (gne_oa hU3.1 (hU3.n (gne_ao hM_1 hM_0) hM_1)) gno0)) (by decide)) (hF10 _ _ _ (hU3.n (gne_c hM_3 hM_0 (by decide)) hM_3) (gno (gne_oa (hU3.n (gne_c hM_3 hM_0 (by decide)) hM_3) (hU3.n (gne_ao hM_1 hM_0) hM_1)) gno0)))
    refine g_iconst hC dJ6_offer_56 ki_1 57 rfl ?_
    exact g_zret (v := 1) hC (by decide) (fun k9 hk9 => ⟨rfl, (by rw [hU13.1]; all_goals (first | rfl | (simp only [eq_true c_4, if_true, if_false, true_and, and_true, false_and, and_false, true_or, or_true, false_or, or_false, not_true_eq_false, not_false_eq_true, reduceIte, decide_true, decide_false, Bool.false_eq_true]; done) | (simp only [eq_true c_4, if_true, if_false, true_and, and_true, false_and, and_false, true_or, or_true, false_or, or_false, not_true_eq_false, not_false_eq_true, reduceIte, decide_true, decide_false, Bool.false_eq_true]; rfl) | (simp only [c_4, if_true, if_false, true_and, and_true, false_and, and_false, true_or, or_true, false_or, or_false, not_true_eq_false, not_false_eq_true, reduceIte, decide_true, decide_false, Bool.false_eq_true]; done) | (simp only []; simp only [if_true, if_false, true_and, and_true, false_and, and_false, true_or, or_true, false_or, or_false, not_true_eq_false, not_false_eq_true, reduceIte, decide_true, decide_false, Bool.false_eq_true, eq_true c_4]; done) | (simp only []; simp only [if_true, if_false, true_and, and_true, false_and, and_false, true_or, or_true, false_or, or_false, not_true_eq_false, not_false_eq_true, reduceIte, decide_true, decide_false, Bool.false_eq_true, c_4]; done) | (simp only []; simp only [if_true, if_false, true_and, and_true, false_and, and_false, true_or, or_true, false_or, or_false, not_true_eq_false, not_false_eq_true, reduceIte, decide_true, decide_false, Bool.false_eq_true, c_4]; simp only []; done) | (simp only [c_4, if_true, if_false, true_and, and_true, false_and, and_false, true_or, or_true, false_or, or_false, not_true_eq_false, not_false_eq_true, reduceIte, decide_true, decide_false, Bool.false_eq_true]; rfl) | (simp only []; simp only [if_true, if_false, true_and, and_true, false_and, and_false, true_or, or_true, false_or, or_false, not_true_eq_false, not_false_eq_true, reduceIte, decide_true, decide_false, Bool.false_eq_true, c_4]; rfl) | (simp only []; rfl) | (simp only [c_4, if_true, if_false, true_and, and_true, false_and, and_false, true_or, or_true, false_or, or_false, not_true_eq_false, not_false_eq_true, reduceIte, decide_true, decide_false, Bool.false_eq_true]; rfl) | (simp_all []; done))), hH14, (((gFr.refl.up hU3 hM_0 (by simp)).trans (hF10.mono (by intro b t hb; simp at hb ⊢; first | done | (rcases hb with rfl | rfl | rfl | rfl <;> simp) | (simp [hb]; done)))).up hU13 (hF10 _ _ _ hU3.1 (gno (gne_oa hU3.1 (hU3.n (gne_ao hM_1 hM_0) hM_1)) gno0)) (by simp)), (by first | exact Nat.le_zero.mp hk9 | omega)⟩) dJ6_offer_57 (Nat.le_of_ble_eq_true rfl) (Nat.le_of_ble_eq_true rfl)
  · exact absurd (show 4 ≤ 1 from nn_nlt (by omega) (by omega) c_4) (by omega)
set_option maxHeartbeats 4000000 in
theorem met_PQ_add_1 (l : Launch) (G : gG) (M : gM) (w : Nat) (wq : Nat) (t0 : Nat × Nat) (t1 : Nat × Nat) (mc : Int32) (xa : Nat) (dx : frD) (a0 : Nat) (d0 : frD)  (hM_0 : M w = some (t0, .inr (20, [.ref wq, .int (nI 1), .null, .int mc]))) (hM_1 : M wq = some (t1, .inl (gcs G 3, 4, .inr (.inr (.inr (.inr (pqA [(a0, d0)]))))))) (hM_2 : M xa = some ((0, 1), .inr (8, [.int dx.1, .int (bI dx.2.1), .int dx.2.2.1, .int dx.2.2.2.1, .int dx.2.2.2.2]))) (hM_3 : M a0 = some ((0, 1), .inr (8, [.int d0.1, .int (bI d0.2.1), .int d0.2.2.1, .int d0.2.2.2.1, .int d0.2.2.2.2]))) : Met l yJ6_add (ws_ yJ6_add cJ6_add 2 (some .boolean)) ({ frames := 6, cells := 0, slots := 0, locals := 165 }) (gPc G [.ref w, .ref xa] M) (gQi G (fun r9 M9 k9 => r9 = 1 ∧ M9 w = some (t0, .inr (20, [.ref wq, .int (nI 2), .null, .int (mc + 1)])) ∧ M9 wq = some (t1, .inl (gcs G 3, 4, .inr (.inr (.inr (.inr (pqA (pqAdd [(a0, d0)] (xa, dx)))))))) ∧ gFr (gL [w, wq]) M M9 ∧ k9 = 0)) 0 0 (gA G) := by
  refine gMet [(0, .ref w), (1, .ref xa)] (by decide) (Nat.le_of_ble_eq_true rfl) rfl ?_
  intro p e s m below meth c hC
  refine g_aload_n hC dJ6_add_0 0 rfl gRef_r 1 rfl ?_
  refine g_aload_n hC dJ6_add_1 1 rfl gRef_r 2 rfl ?_
  refine g_calli (g_V (As := [.ref xa]) (rest := []) hC mvJ6_offer q1175 (gOf.of hC.K cI20 hM_0) (met_PQ_offer_1 l G M w wq t0 t1 mc xa dx a0 d0 hM_0 hM_1 hM_2 hM_3) ⟨rfl, rfl⟩ ⟨(Nat.le_of_ble_eq_true rfl), (Nat.le_of_ble_eq_true rfl)⟩ rfl (Nat.le_of_ble_eq_true rfl) dJ6_add_2 rfl ⟨(Nat.le_of_ble_eq_true rfl), (Nat.le_of_ble_eq_true rfl)⟩) 0 (Nat.le_of_ble_eq_true rfl) 0 (Nat.le_of_ble_eq_true rfl) 5 rfl (fun r4 M1 k2 hp3 => ?_)
  obtain ⟨rfl, hc5, hc6, hF7, hk8⟩ := hp3
  exact g_zret (v := 1) hC (by decide) (fun k9 hk9 => ⟨rfl, hc5, hc6, (gFr.refl.trans (hF7.mono (by intro b t hb; simp at hb ⊢; first | done | (rcases hb with rfl | rfl | rfl | rfl <;> simp) | (simp [hb]; done)))), (by first | exact Nat.le_zero.mp hk9 | omega)⟩) dJ6_add_5 (Nat.le_of_ble_eq_true rfl) (Nat.le_of_ble_eq_true rfl)
set_option maxHeartbeats 4000000 in
theorem met_PQ_up_2 (l : Launch) (G : gG) (M : gM) (wq : Nat) (t1 : Nat × Nat) (xa : Nat) (dx : frD) (a0 : Nat) (a1 : Nat) (d0 : frD) (d1 : frD)  (hM_0 : M wq = some (t1, .inl (gcs G 3, 4, .inr (.inr (.inr (.inr (pqA [(a0, d0), (a1, d1)]))))))) (hM_1 : M xa = some ((0, 1), .inr (8, [.int dx.1, .int (bI dx.2.1), .int dx.2.2.1, .int dx.2.2.2.1, .int dx.2.2.2.2]))) (hM_2 : M a0 = some ((0, 1), .inr (8, [.int d0.1, .int (bI d0.2.1), .int d0.2.2.1, .int d0.2.2.2.1, .int d0.2.2.2.2]))) (hM_3 : M a1 = some ((0, 1), .inr (8, [.int d1.1, .int (bI d1.2.1), .int d1.2.2.1, .int d1.2.2.2.1, .int d1.2.2.2.2]))) : Met l yJ6_siftUpComparable (ws_ yJ6_siftUpComparable cJ6_siftUpComparable 6 none) ({ frames := 3, cells := 0, slots := 0, locals := 80 }) (gPc G [.int (nI 2), .ref xa, .ref wq] M) (gQv G (fun M9 k9 => M9 wq = some (t1, .inl (gcs G 3, 4, .inr (.inr (.inr (.inr (pqA (pqAdd [(a0, d0), (a1, d1)] (xa, dx)))))))) ∧ gFr (gL [wq]) M M9 ∧ k9 = 0)) 0 0 (gA G) := by
  refine gMet [(0, .int (nI 2)), (1, .ref xa), (2, .ref wq)] (by decide) (Nat.le_of_ble_eq_true rfl) rfl ?_
  intro p e s m below meth c hC
  refine g_aload_n hC dJ6_siftUpComparable_0 1 rfl gRef_r 1 rfl ?_
  refine g_cast hC (gOf.of hC.K cI8 hM_1) q632 q1218 dJ6_siftUpComparable_1 4 rfl ?_
  refine g_astore_n hC dJ6_siftUpComparable_4 rfl gRef_r (Nat.le_of_ble_eq_true rfl) [(3, .ref xa), (0, .int (nI 2)), (1, .ref xa), (2, .ref wq)] rfl 5 rfl ?_
  refine g_iload_n hC dJ6_siftUpComparable_5 1 rfl 6 rfl ?_
  refine g_if_le hC dJ6_siftUpComparable_6 47 rfl 9 rfl (fun c_1 => ?_) (fun c_1 => ?_)
  · exact absurd (show 2 ≤ 0 from nn_le (by omega) (by omega) c_1) (by omega)
  · replace c_1 : 0 < 2 := nn_nle (by omega) (by omega) c_1
    refine g_iload_n hC dJ6_siftUpComparable_9 1 rfl 10 rfl ?_
    refine g_iconst hC dJ6_siftUpComparable_10 ki_1 11 rfl ?_
    refine g_isub hC dJ6_siftUpComparable_11 12 rfl ?_
    refine g_topi (y := 1) (nI_s (a := 2) (b := 1) (c := 1) (by omega)) ?_
    refine g_iconst hC dJ6_siftUpComparable_12 ki_1 13 rfl ?_
    refine g_iushr (v := 0) hC dJ6_siftUpComparable_13 (by decide) 14 rfl ?_
    refine g_istore hC dJ6_siftUpComparable_14 (Nat.le_of_ble_eq_true rfl) [(4, .int 0), (3, .ref xa), (0, .int (nI 2)), (1, .ref xa), (2, .ref wq)] rfl 16 rfl ?_
    refine g_aload_n hC dJ6_siftUpComparable_16 4 rfl gRef_r 17 rfl ?_
    refine g_iload hC dJ6_siftUpComparable_17 0 rfl 19 rfl ?_
    refine g_aldq (r := some a0) hC hM_0 3 rfl (vp_in_nI (n := 0) (by first | decide | omega) (by first | decide | omega)) ((congrArg (pqA [(a0, d0), (a1, d1)]) (nI_clamp (n := 0) (by decide))).trans rfl) dJ6_siftUpComparable_19 20 rfl ?_
    refine g_astore hC dJ6_siftUpComparable_20 gRef_r (Nat.le_of_ble_eq_true rfl) [(5, .ref a0), (4, .int 0), (3, .ref xa), (0, .int (nI 2)), (1, .ref xa), (2, .ref wq)] rfl 22 rfl ?_
    refine g_aload_n hC dJ6_siftUpComparable_22 2 rfl gRef_r 23 rfl ?_
    refine g_aload hC dJ6_siftUpComparable_23 0 rfl gRef_r 25 rfl ?_
    refine g_callFiP (g_F (n := 1) (As := [.ref a0]) (rest := []) hC ⟨by decide +kernel, q633, q635, q121, q637, by decide +kernel⟩ q1220 (gOf.of hC.K cI8 hM_1) (hC.at cI8) (met_Fr_cmp l G M xa a0 dx d0 hM_1 hM_2) ⟨rfl, rfl⟩ ⟨(Nat.le_of_ble_eq_true rfl), (Nat.le_of_ble_eq_true rfl)⟩ rfl (Nat.le_of_ble_eq_true rfl) dJ6_siftUpComparable_25 rfl ⟨(Nat.le_of_ble_eq_true rfl), (Nat.le_of_ble_eq_true rfl)⟩) 30 rfl 0 (Nat.le_of_ble_eq_true rfl) ?_
    refine g_if_lt hC dJ6_siftUpComparable_30 36 rfl 33 rfl (fun c_2 => ?_) (fun c_2 => ?_)
    · refine g_aload_n hC dJ6_siftUpComparable_36 5 rfl gRef_r 37 rfl ?_
      refine g_iload_n hC dJ6_siftUpComparable_37 3 rfl 38 rfl ?_
      refine g_aload hC dJ6_siftUpComparable_38 0 rfl gRef_r 40 rfl ?_
      refine g_astq hC hM_0 3 rfl (gOf.of hC.K cI8 hM_2) (Or.inr q3433) (vp_in_nI (n := 2) (by first | decide | omega) (by first | decide | omega)) 2 (nI_clamp (n := 2) (by decide)) dJ6_siftUpComparable_40 41 rfl (fun M3 hU4 => ?_)
      refine g_iload hC dJ6_siftUpComparable_41 1 rfl 43 rfl ?_
      refine g_istore_n hC dJ6_siftUpComparable_43 rfl (Nat.le_of_ble_eq_true rfl) [(0, .int 0), (5, .ref a0), (4, .int 0), (3, .ref xa), (1, .ref xa), (2, .ref wq)] rfl 44 rfl ?_
      refine g_goto hC dJ6_siftUpComparable_44 5 rfl ?_
      refine g_iload_n hC dJ6_siftUpComparable_5 0 rfl 6 rfl ?_
      refine g_if_le hC dJ6_siftUpComparable_6 47 rfl 9 rfl (fun c_5 => ?_) (fun c_5 => ?_)
      · refine g_aload_n hC dJ6_siftUpComparable_47 5 rfl gRef_r 48 rfl ?_
        refine g_iload_n hC dJ6_siftUpComparable_48 0 rfl 49 rfl ?_
        refine g_aload_n hC dJ6_siftUpComparable_49 3 rfl gRef_r 50 rfl ?_
        refine g_astq hC hU4.1 3 rfl (gOf.of hC.K cI8 (hU4.n (gne_oa hM_1 hM_0) hM_1)) (Or.inr q3433) (vp_in_nI (n := 0) (by first | decide | omega) (by first | decide | omega)) 0 (nI_clamp (n := 0) (by decide)) dJ6_siftUpComparable_50 51 rfl (fun M6 hU7 => ?_)
        exact g_vret hC (fun k9 hk9 => ⟨(by rw [hU7.1]; have hq : va_up (va_up (pqA [(a0, d0), (a1, d1)]) 2 (some a0)) 0 (some xa) = pqA (pqAdd [(a0, d0), (a1, d1)] (xa, dx)) := (by simp only [pqAdd, eq_true c_2, if_true, if_false]; funext i; rcases i with _ | _ | _ | _ | i <;> simp [va_up, pqA]); rw [hq]), ((gFr.refl.up hU4 hM_0 (by simp)).up hU7 hU4.1 (by simp)), (by first | exact Nat.le_zero.mp hk9 | omega)⟩) dJ6_siftUpComparable_51 (Nat.le_of_ble_eq_true rfl) (Nat.le_of_ble_eq_true rfl)
      · exact absurd c_5 (by decide)
    · refine g_goto hC dJ6_siftUpComparable_33 47 rfl ?_
      refine g_aload_n hC dJ6_siftUpComparable_47 5 rfl gRef_r 48 rfl ?_
      refine g_iload_n hC dJ6_siftUpComparable_48 3 rfl 49 rfl ?_
      refine g_aload_n hC dJ6_siftUpComparable_49 2 rfl gRef_r 50 rfl ?_
      refine g_astq hC hM_0 3 rfl (gOf.of hC.K cI8 hM_1) (Or.inr q3433) (vp_in_nI (n := 2) (by first | decide | omega) (by first | decide | omega)) 2 (nI_clamp (n := 2) (by decide)) dJ6_siftUpComparable_50 51 rfl (fun M8 hU9 => ?_)
      exact g_vret hC (fun k9 hk9 => ⟨(by rw [hU9.1]; have hq : va_up (pqA [(a0, d0), (a1, d1)]) 2 (some xa) = pqA (pqAdd [(a0, d0), (a1, d1)] (xa, dx)) := (by simp only [pqAdd, eq_false c_2, if_true, if_false]; funext i; rcases i with _ | _ | _ | _ | i <;> simp [va_up, pqA]); rw [hq]), (gFr.refl.up hU9 hM_0 (by simp)), (by first | exact Nat.le_zero.mp hk9 | omega)⟩) dJ6_siftUpComparable_51 (Nat.le_of_ble_eq_true rfl) (Nat.le_of_ble_eq_true rfl)
set_option maxHeartbeats 4000000 in
theorem met_PQ_sift_2 (l : Launch) (G : gG) (M : gM) (w : Nat) (wq : Nat) (t0 : Nat × Nat) (t1 : Nat × Nat) (mc : Int32) (xa : Nat) (dx : frD) (a0 : Nat) (a1 : Nat) (d0 : frD) (d1 : frD)  (hM_0 : M w = some (t0, .inr (20, [.ref wq, .int (nI 2), .null, .int mc]))) (hM_1 : M wq = some (t1, .inl (gcs G 3, 4, .inr (.inr (.inr (.inr (pqA [(a0, d0), (a1, d1)]))))))) (hM_2 : M xa = some ((0, 1), .inr (8, [.int dx.1, .int (bI dx.2.1), .int dx.2.2.1, .int dx.2.2.2.1, .int dx.2.2.2.2]))) (hM_3 : M a0 = some ((0, 1), .inr (8, [.int d0.1, .int (bI d0.2.1), .int d0.2.2.1, .int d0.2.2.2.1, .int d0.2.2.2.2]))) (hM_4 : M a1 = some ((0, 1), .inr (8, [.int d1.1, .int (bI d1.2.1), .int d1.2.2.1, .int d1.2.2.2.1, .int d1.2.2.2.2]))) : Met l yJ6_siftUp (ws_ yJ6_siftUp cJ6_siftUp 3 none) ({ frames := 4, cells := 0, slots := 0, locals := 110 }) (gPc G [.ref w, .int (nI 2), .ref xa] M) (gQv G (fun M9 k9 => M9 wq = some (t1, .inl (gcs G 3, 4, .inr (.inr (.inr (.inr (pqA (pqAdd [(a0, d0), (a1, d1)] (xa, dx)))))))) ∧ gFr (gL [wq]) M M9 ∧ k9 = 0)) 0 0 (gA G) := by
  refine gMet [(0, .ref w), (1, .int (nI 2)), (2, .ref xa)] (by decide) (Nat.le_of_ble_eq_true rfl) rfl ?_
  intro p e s m below meth c hC
  refine g_aload_n hC dJ6_siftUp_0 0 rfl gRef_r 1 rfl ?_
  refine g_get (v := .null) hC cI20 hM_0 2 (Nat.le_of_ble_eq_true rfl) q294 rfl dJ6_siftUp_1 4 rfl ?_
  refine g_ifnull (r := none) hC dJ6_siftUp_4 23 rfl 7 rfl (fun _ => ?_) (fun _ q => by cases q)
  refine g_iload_n hC dJ6_siftUp_23 1 rfl 24 rfl ?_
  refine g_aload_n hC dJ6_siftUp_24 2 rfl gRef_r 25 rfl ?_
  refine g_aload_n hC dJ6_siftUp_25 0 rfl gRef_r 26 rfl ?_
  refine g_get (v := .ref wq) hC cI20 hM_0 0 (Nat.le_of_ble_eq_true rfl) q291 rfl dJ6_siftUp_26 29 rfl ?_
  refine g_callv (g_S (As := [.int (nI 2), .ref xa, .ref wq]) (rest := []) hC msJ6_siftUpComparable q1215 (met_PQ_up_2 l G M wq t1 xa dx a0 a1 d0 d1 hM_1 hM_2 hM_3 hM_4) ⟨rfl, rfl⟩ ⟨(Nat.le_of_ble_eq_true rfl), (Nat.le_of_ble_eq_true rfl)⟩ rfl (Nat.le_of_ble_eq_true rfl) dJ6_siftUp_29 rfl ⟨(Nat.le_of_ble_eq_true rfl), (Nat.le_of_ble_eq_true rfl)⟩) 0 (Nat.le_of_ble_eq_true rfl) 0 (Nat.le_of_ble_eq_true rfl) 32 rfl (fun M2 k3 hp4 => ?_)
  obtain ⟨hc6, hF7, hk8⟩ := hp4
  exact g_vret hC (fun k9 hk9 => ⟨hc6, (gFr.refl.trans (hF7.mono (by intro b t hb; simp at hb ⊢; first | done | (rcases hb with rfl | rfl | rfl | rfl <;> simp) | (simp [hb]; done)))), (by first | exact Nat.le_zero.mp hk9 | omega)⟩) dJ6_siftUp_32 (Nat.le_of_ble_eq_true rfl) (Nat.le_of_ble_eq_true rfl)
set_option maxHeartbeats 4000000 in
theorem met_PQ_offer_2 (l : Launch) (G : gG) (M : gM) (w : Nat) (wq : Nat) (t0 : Nat × Nat) (t1 : Nat × Nat) (mc : Int32) (xa : Nat) (dx : frD) (a0 : Nat) (a1 : Nat) (d0 : frD) (d1 : frD)  (hM_0 : M w = some (t0, .inr (20, [.ref wq, .int (nI 2), .null, .int mc]))) (hM_1 : M wq = some (t1, .inl (gcs G 3, 4, .inr (.inr (.inr (.inr (pqA [(a0, d0), (a1, d1)]))))))) (hM_2 : M xa = some ((0, 1), .inr (8, [.int dx.1, .int (bI dx.2.1), .int dx.2.2.1, .int dx.2.2.2.1, .int dx.2.2.2.2]))) (hM_3 : M a0 = some ((0, 1), .inr (8, [.int d0.1, .int (bI d0.2.1), .int d0.2.2.1, .int d0.2.2.2.1, .int d0.2.2.2.2]))) (hM_4 : M a1 = some ((0, 1), .inr (8, [.int d1.1, .int (bI d1.2.1), .int d1.2.2.1, .int d1.2.2.2.1, .int d1.2.2.2.2]))) : Met l yJ6_offer (ws_ yJ6_offer cJ6_offer 3 (some .boolean)) ({ frames := 5, cells := 0, slots := 0, locals := 140 }) (gPc G [.ref w, .ref xa] M) (gQi G (fun r9 M9 k9 => r9 = 1 ∧ M9 w = some (t0, .inr (20, [.ref wq, .int (nI 3), .null, .int (mc + 1)])) ∧ M9 wq = some (t1, .inl (gcs G 3, 4, .inr (.inr (.inr (.inr (pqA (pqAdd [(a0, d0), (a1, d1)] (xa, dx)))))))) ∧ gFr (gL [w, wq]) M M9 ∧ k9 = 0)) 0 0 (gA G) := by
  refine gMet [(0, .ref w), (1, .ref xa)] (by decide) (Nat.le_of_ble_eq_true rfl) rfl ?_
  intro p e s m below meth c hC
  refine g_aload_n hC dJ6_offer_0 1 rfl gRef_r 1 rfl ?_
  refine g_ifnonnull (r := some xa) hC dJ6_offer_1 12 rfl 4 rfl (fun _ _ => ?_) (fun q => by cases q)
  refine g_aload_n hC dJ6_offer_12 0 rfl gRef_r 13 rfl ?_
  refine g_dup hC dJ6_offer_13 rfl 14 rfl ?_
  refine g_get (v := .int mc) hC cI20 hM_0 3 (Nat.le_of_ble_eq_true rfl) q296 rfl dJ6_offer_14 17 rfl ?_
  refine g_iconst hC dJ6_offer_17 ki_1 18 rfl ?_
  refine g_iadd hC dJ6_offer_18 19 rfl ?_
  refine g_put hC cI20 hM_0 3 (Nat.le_of_ble_eq_true rfl) q296 rfl rfl rfl (Nat.le_of_ble_eq_true rfl) dJ6_offer_19 (fs' := [.ref wq, .int (nI 2), .null, .int (mc + 1)]) rfl 22 rfl (fun M2 hU3 => ?_)
  refine g_aload_n hC dJ6_offer_22 0 rfl gRef_r 23 rfl ?_
  refine g_get (v := .int (nI 2)) hC cI20 hU3.1 1 (Nat.le_of_ble_eq_true rfl) q293 rfl dJ6_offer_23 26 rfl ?_
  refine g_istore_n hC dJ6_offer_26 rfl (Nat.le_of_ble_eq_true rfl) [(2, .int (nI 2)), (0, .ref w), (1, .ref xa)] rfl 27 rfl ?_
  refine g_iload_n hC dJ6_offer_27 0 rfl 28 rfl ?_
  refine g_aload_n hC dJ6_offer_28 1 rfl gRef_r 29 rfl ?_
  refine g_get (v := .ref wq) hC cI20 hU3.1 0 (Nat.le_of_ble_eq_true rfl) q291 rfl dJ6_offer_29 32 rfl ?_
  refine g_alen (v := nI 4) hC (hU3.n (gne_ao hM_1 hM_0) hM_1) 3 rfl rfl dJ6_offer_32 33 rfl ?_
  refine g_icmp_lt hC dJ6_offer_33 43 rfl 36 rfl (fun c_4 => ?_) (fun c_4 => ?_)
  · replace c_4 : 2 < 4 := nn_lt (by omega) (by omega) c_4
    refine g_aload_n hC dJ6_offer_43 1 rfl gRef_r 44 rfl ?_
    refine g_iload_n hC dJ6_offer_44 0 rfl 45 rfl ?_
    refine g_aload_n hC dJ6_offer_45 2 rfl gRef_r 46 rfl ?_
    refine g_callv (g_V (As := [.int (nI 2), .ref xa]) (rest := []) hC mvJ6_siftUp q1206 (gOf.of hC.K cI20 hU3.1) (met_PQ_sift_2 l G M2 w wq t0 t1 (mc + 1) xa dx a0 a1 d0 d1 hU3.1 (hU3.n (gne_ao hM_1 hM_0) hM_1) (hU3.n (gne_c hM_2 hM_0 (by decide)) hM_2) (hU3.n (gne_c hM_3 hM_0 (by decide)) hM_3) (hU3.n (gne_c hM_4 hM_0 (by decide)) hM_4)) ⟨rfl, rfl⟩ ⟨(Nat.le_of_ble_eq_true rfl), (Nat.le_of_ble_eq_true rfl)⟩ rfl (Nat.le_of_ble_eq_true rfl) dJ6_offer_46 rfl ⟨(Nat.le_of_ble_eq_true rfl), (Nat.le_of_ble_eq_true rfl)⟩) 0 (Nat.le_of_ble_eq_true rfl) 0 (Nat.le_of_ble_eq_true rfl) 49 rfl (fun M5 k6 hp7 => ?_)
    obtain ⟨hc9, hF10, hk11⟩ := hp7
    refine g_aload_n hC dJ6_offer_49 1 rfl gRef_r 50 rfl ?_
    refine g_iload_n hC dJ6_offer_50 0 rfl 51 rfl ?_
    refine g_iconst hC dJ6_offer_51 ki_1 52 rfl ?_
    refine g_iadd hC dJ6_offer_52 53 rfl ?_
    refine g_topi (y := 3) (nI_a (a := 2) (b := 1) (c := 3) (by omega)) ?_
    refine g_put hC cI20 (hF10 _ _ _ hU3.1 (gno (gne_oa hU3.1 (hU3.n (gne_ao hM_1 hM_0) hM_1)) gno0)) 1 (Nat.le_of_ble_eq_true rfl) q293 rfl rfl rfl (Nat.le_of_ble_eq_true rfl) dJ6_offer_53 (fs' := [.ref wq, .int 3, .null, .int (mc + 1)]) rfl 56 rfl (fun M12 hU13 => ?_)
    have hH14 := (hU13.n (gne_ao hc9 (hF10 _ _ _ hU3.1 (gno (gne_oa hU3.1 (hU3.n (gne_ao hM_1 hM_0) hM_1)) gno0))) hc9)
    have hH15 := (hU13.n (gne_c (hF10 _ _ _ (hU3.n (gne_c hM_2 hM_0 (by decide)) hM_2) (gno (gne_oa (hU3.n (gne_c hM_2 hM_0 (by decide)) hM_2) (hU3.n (gne_ao hM_1 hM_0) hM_1)) gno0)) (hF10 _ _ _ hU3.1 (gno (gne_oa hU3.1 (hU3.n (gne_ao hM_1 hM_0) hM_1)) gno0)) (by decide)) (hF10 _ _ _ (hU3.n (gne_c hM_2 hM_0 (by decide)) hM_2) (gno (gne_oa (hU3.n (gne_c hM_2 hM_0 (by decide)) hM_2) (hU3.n (gne_ao hM_1 hM_0) hM_1)) gno0)))
    have hH16 := (hU13.n (gne_c (hF10 _ _ _ (hU3.n (gne_c hM_3 hM_0 (by decide)) hM_3) (gno (gne_oa (hU3.n (gne_c hM_3 hM_0 (by decide)) hM_3) (hU3.n (gne_ao hM_1 hM_0) hM_1)) gno0)) (hF10 _ _ _ hU3.1 (gno (gne_oa hU3.1 (hU3.n (gne_ao hM_1 hM_0) hM_1)) gno0)) (by decide)) (hF10 _ _ _ (hU3.n (gne_c hM_3 hM_0 (by decide)) hM_3) (gno (gne_oa (hU3.n (gne_c hM_3 hM_0 (by decide)) hM_3) (hU3.n (gne_ao hM_1 hM_0) hM_1)) gno0)))
    have hH17 := (hU13.n (gne_c (hF10 _ _ _ (hU3.n (gne_c hM_4 hM_0 (by decide)) hM_4) (gno (gne_oa (hU3.n (gne_c hM_4 hM_0 (by decide)) hM_4) (hU3.n (gne_ao hM_1 hM_0) hM_1)) gno0)) (hF10 _ _ _ hU3.1 (gno (gne_oa hU3.1 (hU3.n (gne_ao hM_1 hM_0) hM_1)) gno0)) (by decide)) (hF10 _ _ _ (hU3.n (gne_c hM_4 hM_0 (by decide)) hM_4) (gno (gne_oa (hU3.n (gne_c hM_4 hM_0 (by decide)) hM_4) (hU3.n (gne_ao hM_1 hM_0) hM_1)) gno0)))
    refine g_iconst hC dJ6_offer_56 ki_1 57 rfl ?_
    exact g_zret (v := 1) hC (by decide) (fun k9 hk9 => ⟨rfl, (by rw [hU13.1]; all_goals (first | rfl | (simp only [eq_true c_4, if_true, if_false, true_and, and_true, false_and, and_false, true_or, or_true, false_or, or_false, not_true_eq_false, not_false_eq_true, reduceIte, decide_true, decide_false, Bool.false_eq_true]; done) | (simp only [eq_true c_4, if_true, if_false, true_and, and_true, false_and, and_false, true_or, or_true, false_or, or_false, not_true_eq_false, not_false_eq_true, reduceIte, decide_true, decide_false, Bool.false_eq_true]; rfl) | (simp only [c_4, if_true, if_false, true_and, and_true, false_and, and_false, true_or, or_true, false_or, or_false, not_true_eq_false, not_false_eq_true, reduceIte, decide_true, decide_false, Bool.false_eq_true]; done) | (simp only []; simp only [if_true, if_false, true_and, and_true, false_and, and_false, true_or, or_true, false_or, or_false, not_true_eq_false, not_false_eq_true, reduceIte, decide_true, decide_false, Bool.false_eq_true, eq_true c_4]; done) | (simp only []; simp only [if_true, if_false, true_and, and_true, false_and, and_false, true_or, or_true, false_or, or_false, not_true_eq_false, not_false_eq_true, reduceIte, decide_true, decide_false, Bool.false_eq_true, c_4]; done) | (simp only []; simp only [if_true, if_false, true_and, and_true, false_and, and_false, true_or, or_true, false_or, or_false, not_true_eq_false, not_false_eq_true, reduceIte, decide_true, decide_false, Bool.false_eq_true, c_4]; simp only []; done) | (simp only [c_4, if_true, if_false, true_and, and_true, false_and, and_false, true_or, or_true, false_or, or_false, not_true_eq_false, not_false_eq_true, reduceIte, decide_true, decide_false, Bool.false_eq_true]; rfl) | (simp only []; simp only [if_true, if_false, true_and, and_true, false_and, and_false, true_or, or_true, false_or, or_false, not_true_eq_false, not_false_eq_true, reduceIte, decide_true, decide_false, Bool.false_eq_true, c_4]; rfl) | (simp only []; rfl) | (simp only [c_4, if_true, if_false, true_and, and_true, false_and, and_false, true_or, or_true, false_or, or_false, not_true_eq_false, not_false_eq_true, reduceIte, decide_true, decide_false, Bool.false_eq_true]; rfl) | (simp_all []; done))), hH14, (((gFr.refl.up hU3 hM_0 (by simp)).trans (hF10.mono (by intro b t hb; simp at hb ⊢; first | done | (rcases hb with rfl | rfl | rfl | rfl <;> simp) | (simp [hb]; done)))).up hU13 (hF10 _ _ _ hU3.1 (gno (gne_oa hU3.1 (hU3.n (gne_ao hM_1 hM_0) hM_1)) gno0)) (by simp)), (by first | exact Nat.le_zero.mp hk9 | omega)⟩) dJ6_offer_57 (Nat.le_of_ble_eq_true rfl) (Nat.le_of_ble_eq_true rfl)
  · exact absurd (show 4 ≤ 2 from nn_nlt (by omega) (by omega) c_4) (by omega)
set_option maxHeartbeats 4000000 in
theorem met_PQ_add_2 (l : Launch) (G : gG) (M : gM) (w : Nat) (wq : Nat) (t0 : Nat × Nat) (t1 : Nat × Nat) (mc : Int32) (xa : Nat) (dx : frD) (a0 : Nat) (a1 : Nat) (d0 : frD) (d1 : frD)  (hM_0 : M w = some (t0, .inr (20, [.ref wq, .int (nI 2), .null, .int mc]))) (hM_1 : M wq = some (t1, .inl (gcs G 3, 4, .inr (.inr (.inr (.inr (pqA [(a0, d0), (a1, d1)]))))))) (hM_2 : M xa = some ((0, 1), .inr (8, [.int dx.1, .int (bI dx.2.1), .int dx.2.2.1, .int dx.2.2.2.1, .int dx.2.2.2.2]))) (hM_3 : M a0 = some ((0, 1), .inr (8, [.int d0.1, .int (bI d0.2.1), .int d0.2.2.1, .int d0.2.2.2.1, .int d0.2.2.2.2]))) (hM_4 : M a1 = some ((0, 1), .inr (8, [.int d1.1, .int (bI d1.2.1), .int d1.2.2.1, .int d1.2.2.2.1, .int d1.2.2.2.2]))) : Met l yJ6_add (ws_ yJ6_add cJ6_add 2 (some .boolean)) ({ frames := 6, cells := 0, slots := 0, locals := 165 }) (gPc G [.ref w, .ref xa] M) (gQi G (fun r9 M9 k9 => r9 = 1 ∧ M9 w = some (t0, .inr (20, [.ref wq, .int (nI 3), .null, .int (mc + 1)])) ∧ M9 wq = some (t1, .inl (gcs G 3, 4, .inr (.inr (.inr (.inr (pqA (pqAdd [(a0, d0), (a1, d1)] (xa, dx)))))))) ∧ gFr (gL [w, wq]) M M9 ∧ k9 = 0)) 0 0 (gA G) := by
  refine gMet [(0, .ref w), (1, .ref xa)] (by decide) (Nat.le_of_ble_eq_true rfl) rfl ?_
  intro p e s m below meth c hC
  refine g_aload_n hC dJ6_add_0 0 rfl gRef_r 1 rfl ?_
  refine g_aload_n hC dJ6_add_1 1 rfl gRef_r 2 rfl ?_
  refine g_calli (g_V (As := [.ref xa]) (rest := []) hC mvJ6_offer q1175 (gOf.of hC.K cI20 hM_0) (met_PQ_offer_2 l G M w wq t0 t1 mc xa dx a0 a1 d0 d1 hM_0 hM_1 hM_2 hM_3 hM_4) ⟨rfl, rfl⟩ ⟨(Nat.le_of_ble_eq_true rfl), (Nat.le_of_ble_eq_true rfl)⟩ rfl (Nat.le_of_ble_eq_true rfl) dJ6_add_2 rfl ⟨(Nat.le_of_ble_eq_true rfl), (Nat.le_of_ble_eq_true rfl)⟩) 0 (Nat.le_of_ble_eq_true rfl) 0 (Nat.le_of_ble_eq_true rfl) 5 rfl (fun r4 M1 k2 hp3 => ?_)
  obtain ⟨rfl, hc5, hc6, hF7, hk8⟩ := hp3
  exact g_zret (v := 1) hC (by decide) (fun k9 hk9 => ⟨rfl, hc5, hc6, (gFr.refl.trans (hF7.mono (by intro b t hb; simp at hb ⊢; first | done | (rcases hb with rfl | rfl | rfl | rfl <;> simp) | (simp [hb]; done)))), (by first | exact Nat.le_zero.mp hk9 | omega)⟩) dJ6_add_5 (Nat.le_of_ble_eq_true rfl) (Nat.le_of_ble_eq_true rfl)
set_option maxHeartbeats 4000000 in
theorem met_PQ_up_3 (l : Launch) (G : gG) (M : gM) (wq : Nat) (t1 : Nat × Nat) (xa : Nat) (dx : frD) (a0 : Nat) (a1 : Nat) (a2 : Nat) (d0 : frD) (d1 : frD) (d2 : frD)  (hM_0 : M wq = some (t1, .inl (gcs G 3, 4, .inr (.inr (.inr (.inr (pqA [(a0, d0), (a1, d1), (a2, d2)]))))))) (hM_1 : M xa = some ((0, 1), .inr (8, [.int dx.1, .int (bI dx.2.1), .int dx.2.2.1, .int dx.2.2.2.1, .int dx.2.2.2.2]))) (hM_2 : M a0 = some ((0, 1), .inr (8, [.int d0.1, .int (bI d0.2.1), .int d0.2.2.1, .int d0.2.2.2.1, .int d0.2.2.2.2]))) (hM_3 : M a1 = some ((0, 1), .inr (8, [.int d1.1, .int (bI d1.2.1), .int d1.2.2.1, .int d1.2.2.2.1, .int d1.2.2.2.2]))) (hM_4 : M a2 = some ((0, 1), .inr (8, [.int d2.1, .int (bI d2.2.1), .int d2.2.2.1, .int d2.2.2.2.1, .int d2.2.2.2.2]))) : Met l yJ6_siftUpComparable (ws_ yJ6_siftUpComparable cJ6_siftUpComparable 6 none) ({ frames := 3, cells := 0, slots := 0, locals := 80 }) (gPc G [.int (nI 3), .ref xa, .ref wq] M) (gQv G (fun M9 k9 => M9 wq = some (t1, .inl (gcs G 3, 4, .inr (.inr (.inr (.inr (pqA (pqAdd [(a0, d0), (a1, d1), (a2, d2)] (xa, dx)))))))) ∧ gFr (gL [wq]) M M9 ∧ k9 = 0)) 0 0 (gA G) := by
  refine gMet [(0, .int (nI 3)), (1, .ref xa), (2, .ref wq)] (by decide) (Nat.le_of_ble_eq_true rfl) rfl ?_
  intro p e s m below meth c hC
  refine g_aload_n hC dJ6_siftUpComparable_0 1 rfl gRef_r 1 rfl ?_
  refine g_cast hC (gOf.of hC.K cI8 hM_1) q632 q1218 dJ6_siftUpComparable_1 4 rfl ?_
  refine g_astore_n hC dJ6_siftUpComparable_4 rfl gRef_r (Nat.le_of_ble_eq_true rfl) [(3, .ref xa), (0, .int (nI 3)), (1, .ref xa), (2, .ref wq)] rfl 5 rfl ?_
  refine g_iload_n hC dJ6_siftUpComparable_5 1 rfl 6 rfl ?_
  refine g_if_le hC dJ6_siftUpComparable_6 47 rfl 9 rfl (fun c_1 => ?_) (fun c_1 => ?_)
  · exact absurd (show 3 ≤ 0 from nn_le (by omega) (by omega) c_1) (by omega)
  · replace c_1 : 0 < 3 := nn_nle (by omega) (by omega) c_1
    refine g_iload_n hC dJ6_siftUpComparable_9 1 rfl 10 rfl ?_
    refine g_iconst hC dJ6_siftUpComparable_10 ki_1 11 rfl ?_
    refine g_isub hC dJ6_siftUpComparable_11 12 rfl ?_
    refine g_topi (y := 2) (nI_s (a := 3) (b := 1) (c := 2) (by omega)) ?_
    refine g_iconst hC dJ6_siftUpComparable_12 ki_1 13 rfl ?_
    refine g_iushr (v := 1) hC dJ6_siftUpComparable_13 (by decide) 14 rfl ?_
    refine g_istore hC dJ6_siftUpComparable_14 (Nat.le_of_ble_eq_true rfl) [(4, .int 1), (3, .ref xa), (0, .int (nI 3)), (1, .ref xa), (2, .ref wq)] rfl 16 rfl ?_
    refine g_aload_n hC dJ6_siftUpComparable_16 4 rfl gRef_r 17 rfl ?_
    refine g_iload hC dJ6_siftUpComparable_17 0 rfl 19 rfl ?_
    refine g_aldq (r := some a1) hC hM_0 3 rfl (vp_in_nI (n := 1) (by first | decide | omega) (by first | decide | omega)) ((congrArg (pqA [(a0, d0), (a1, d1), (a2, d2)]) (nI_clamp (n := 1) (by decide))).trans rfl) dJ6_siftUpComparable_19 20 rfl ?_
    refine g_astore hC dJ6_siftUpComparable_20 gRef_r (Nat.le_of_ble_eq_true rfl) [(5, .ref a1), (4, .int 1), (3, .ref xa), (0, .int (nI 3)), (1, .ref xa), (2, .ref wq)] rfl 22 rfl ?_
    refine g_aload_n hC dJ6_siftUpComparable_22 2 rfl gRef_r 23 rfl ?_
    refine g_aload hC dJ6_siftUpComparable_23 0 rfl gRef_r 25 rfl ?_
    refine g_callFiP (g_F (n := 1) (As := [.ref a1]) (rest := []) hC ⟨by decide +kernel, q633, q635, q121, q637, by decide +kernel⟩ q1220 (gOf.of hC.K cI8 hM_1) (hC.at cI8) (met_Fr_cmp l G M xa a1 dx d1 hM_1 hM_3) ⟨rfl, rfl⟩ ⟨(Nat.le_of_ble_eq_true rfl), (Nat.le_of_ble_eq_true rfl)⟩ rfl (Nat.le_of_ble_eq_true rfl) dJ6_siftUpComparable_25 rfl ⟨(Nat.le_of_ble_eq_true rfl), (Nat.le_of_ble_eq_true rfl)⟩) 30 rfl 0 (Nat.le_of_ble_eq_true rfl) ?_
    refine g_if_lt hC dJ6_siftUpComparable_30 36 rfl 33 rfl (fun c_2 => ?_) (fun c_2 => ?_)
    · refine g_aload_n hC dJ6_siftUpComparable_36 5 rfl gRef_r 37 rfl ?_
      refine g_iload_n hC dJ6_siftUpComparable_37 3 rfl 38 rfl ?_
      refine g_aload hC dJ6_siftUpComparable_38 0 rfl gRef_r 40 rfl ?_
      refine g_astq hC hM_0 3 rfl (gOf.of hC.K cI8 hM_3) (Or.inr q3433) (vp_in_nI (n := 3) (by first | decide | omega) (by first | decide | omega)) 3 (nI_clamp (n := 3) (by decide)) dJ6_siftUpComparable_40 41 rfl (fun M3 hU4 => ?_)
      refine g_iload hC dJ6_siftUpComparable_41 1 rfl 43 rfl ?_
      refine g_istore_n hC dJ6_siftUpComparable_43 rfl (Nat.le_of_ble_eq_true rfl) [(0, .int 1), (5, .ref a1), (4, .int 1), (3, .ref xa), (1, .ref xa), (2, .ref wq)] rfl 44 rfl ?_
      refine g_goto hC dJ6_siftUpComparable_44 5 rfl ?_
      refine g_iload_n hC dJ6_siftUpComparable_5 0 rfl 6 rfl ?_
      refine g_if_le hC dJ6_siftUpComparable_6 47 rfl 9 rfl (fun c_5 => ?_) (fun c_5 => ?_)
      · exact absurd c_5 (by decide)
      · refine g_iload_n hC dJ6_siftUpComparable_9 0 rfl 10 rfl ?_
        refine g_iconst hC dJ6_siftUpComparable_10 ki_1 11 rfl ?_
        refine g_isub hC dJ6_siftUpComparable_11 12 rfl ?_
        refine g_topi (y := 0) (nI_s (a := 1) (b := 1) (c := 0) (by omega)) ?_
        refine g_iconst hC dJ6_siftUpComparable_12 ki_1 13 rfl ?_
        refine g_iushr (v := 0) hC dJ6_siftUpComparable_13 (by decide) 14 rfl ?_
        refine g_istore hC dJ6_siftUpComparable_14 (Nat.le_of_ble_eq_true rfl) [(4, .int 0), (0, .int 1), (5, .ref a1), (3, .ref xa), (1, .ref xa), (2, .ref wq)] rfl 16 rfl ?_
        refine g_aload_n hC dJ6_siftUpComparable_16 5 rfl gRef_r 17 rfl ?_
        refine g_iload hC dJ6_siftUpComparable_17 0 rfl 19 rfl ?_
        refine g_aldq (r := some a0) hC hU4.1 3 rfl (vp_in_nI (n := 0) (by first | decide | omega) (by first | decide | omega)) ((congrArg (va_up (pqA [(a0, d0), (a1, d1), (a2, d2)]) 3 (some a1)) (nI_clamp (n := 0) (by decide))).trans rfl) dJ6_siftUpComparable_19 20 rfl ?_
        refine g_astore hC dJ6_siftUpComparable_20 gRef_r (Nat.le_of_ble_eq_true rfl) [(5, .ref a0), (4, .int 0), (0, .int 1), (3, .ref xa), (1, .ref xa), (2, .ref wq)] rfl 22 rfl ?_
        refine g_aload_n hC dJ6_siftUpComparable_22 3 rfl gRef_r 23 rfl ?_
        refine g_aload hC dJ6_siftUpComparable_23 0 rfl gRef_r 25 rfl ?_
        refine g_callFiP (g_F (n := 1) (As := [.ref a0]) (rest := []) hC ⟨by decide +kernel, q633, q635, q121, q637, by decide +kernel⟩ q1220 (gOf.of hC.K cI8 (hU4.n (gne_oa hM_1 hM_0) hM_1)) (hC.at cI8) (met_Fr_cmp l G M3 xa a0 dx d0 (hU4.n (gne_oa hM_1 hM_0) hM_1) (hU4.n (gne_oa hM_2 hM_0) hM_2)) ⟨rfl, rfl⟩ ⟨(Nat.le_of_ble_eq_true rfl), (Nat.le_of_ble_eq_true rfl)⟩ rfl (Nat.le_of_ble_eq_true rfl) dJ6_siftUpComparable_25 rfl ⟨(Nat.le_of_ble_eq_true rfl), (Nat.le_of_ble_eq_true rfl)⟩) 30 rfl 0 (Nat.le_of_ble_eq_true rfl) ?_
        refine g_if_lt hC dJ6_siftUpComparable_30 36 rfl 33 rfl (fun c_6 => ?_) (fun c_6 => ?_)
        · refine g_aload_n hC dJ6_siftUpComparable_36 5 rfl gRef_r 37 rfl ?_
          refine g_iload_n hC dJ6_siftUpComparable_37 2 rfl 38 rfl ?_
          refine g_aload hC dJ6_siftUpComparable_38 0 rfl gRef_r 40 rfl ?_
          refine g_astq hC hU4.1 3 rfl (gOf.of hC.K cI8 (hU4.n (gne_oa hM_2 hM_0) hM_2)) (Or.inr q3433) (vp_in_nI (n := 1) (by first | decide | omega) (by first | decide | omega)) 1 (nI_clamp (n := 1) (by decide)) dJ6_siftUpComparable_40 41 rfl (fun M7 hU8 => ?_)
          refine g_iload hC dJ6_siftUpComparable_41 1 rfl 43 rfl ?_
          refine g_istore_n hC dJ6_siftUpComparable_43 rfl (Nat.le_of_ble_eq_true rfl) [(0, .int 0), (5, .ref a0), (4, .int 0), (3, .ref xa), (1, .ref xa), (2, .ref wq)] rfl 44 rfl ?_
          refine g_goto hC dJ6_siftUpComparable_44 5 rfl ?_
          refine g_iload_n hC dJ6_siftUpComparable_5 0 rfl 6 rfl ?_
          refine g_if_le hC dJ6_siftUpComparable_6 47 rfl 9 rfl (fun c_9 => ?_) (fun c_9 => ?_)
          · refine g_aload_n hC dJ6_siftUpComparable_47 5 rfl gRef_r 48 rfl ?_
            refine g_iload_n hC dJ6_siftUpComparable_48 0 rfl 49 rfl ?_
            refine g_aload_n hC dJ6_siftUpComparable_49 3 rfl gRef_r 50 rfl ?_
            refine g_astq hC hU8.1 3 rfl (gOf.of hC.K cI8 (hU8.n (gne_oa (hU4.n (gne_oa hM_1 hM_0) hM_1) hU4.1) (hU4.n (gne_oa hM_1 hM_0) hM_1))) (Or.inr q3433) (vp_in_nI (n := 0) (by first | decide | omega) (by first | decide | omega)) 0 (nI_clamp (n := 0) (by decide)) dJ6_siftUpComparable_50 51 rfl (fun M10 hU11 => ?_)
            have hH12 := (hU11.n (gne_oa (hU8.n (gne_oa (hU4.n (gne_oa hM_1 hM_0) hM_1) hU4.1) (hU4.n (gne_oa hM_1 hM_0) hM_1)) hU8.1) (hU8.n (gne_oa (hU4.n (gne_oa hM_1 hM_0) hM_1) hU4.1) (hU4.n (gne_oa hM_1 hM_0) hM_1)))
            have hH13 := (hU11.n (gne_oa (hU8.n (gne_oa (hU4.n (gne_oa hM_2 hM_0) hM_2) hU4.1) (hU4.n (gne_oa hM_2 hM_0) hM_2)) hU8.1) (hU8.n (gne_oa (hU4.n (gne_oa hM_2 hM_0) hM_2) hU4.1) (hU4.n (gne_oa hM_2 hM_0) hM_2)))
            have hH14 := (hU11.n (gne_oa (hU8.n (gne_oa (hU4.n (gne_oa hM_3 hM_0) hM_3) hU4.1) (hU4.n (gne_oa hM_3 hM_0) hM_3)) hU8.1) (hU8.n (gne_oa (hU4.n (gne_oa hM_3 hM_0) hM_3) hU4.1) (hU4.n (gne_oa hM_3 hM_0) hM_3)))
            have hH15 := (hU11.n (gne_oa (hU8.n (gne_oa (hU4.n (gne_oa hM_4 hM_0) hM_4) hU4.1) (hU4.n (gne_oa hM_4 hM_0) hM_4)) hU8.1) (hU8.n (gne_oa (hU4.n (gne_oa hM_4 hM_0) hM_4) hU4.1) (hU4.n (gne_oa hM_4 hM_0) hM_4)))
            exact g_vret hC (fun k9 hk9 => ⟨(by rw [hU11.1]; have hq : va_up (va_up (va_up (pqA [(a0, d0), (a1, d1), (a2, d2)]) 3 (some a1)) 1 (some a0)) 0 (some xa) = pqA (pqAdd [(a0, d0), (a1, d1), (a2, d2)] (xa, dx)) := (by simp only [pqAdd, eq_true c_2, eq_true c_6, if_true, if_false]; funext i; rcases i with _ | _ | _ | _ | i <;> simp [va_up, pqA]); rw [hq]), (((gFr.refl.up hU4 hM_0 (by simp)).up hU8 hU4.1 (by simp)).up hU11 hU8.1 (by simp)), (by first | exact Nat.le_zero.mp hk9 | omega)⟩) dJ6_siftUpComparable_51 (Nat.le_of_ble_eq_true rfl) (Nat.le_of_ble_eq_true rfl)
          · exact absurd c_9 (by decide)
        · refine g_goto hC dJ6_siftUpComparable_33 47 rfl ?_
          refine g_aload_n hC dJ6_siftUpComparable_47 5 rfl gRef_r 48 rfl ?_
          refine g_iload_n hC dJ6_siftUpComparable_48 2 rfl 49 rfl ?_
          refine g_aload_n hC dJ6_siftUpComparable_49 3 rfl gRef_r 50 rfl ?_
          refine g_astq hC hU4.1 3 rfl (gOf.of hC.K cI8 (hU4.n (gne_oa hM_1 hM_0) hM_1)) (Or.inr q3433) (vp_in_nI (n := 1) (by first | decide | omega) (by first | decide | omega)) 1 (nI_clamp (n := 1) (by decide)) dJ6_siftUpComparable_50 51 rfl (fun M16 hU17 => ?_)
          exact g_vret hC (fun k9 hk9 => ⟨(by rw [hU17.1]; have hq : va_up (va_up (pqA [(a0, d0), (a1, d1), (a2, d2)]) 3 (some a1)) 1 (some xa) = pqA (pqAdd [(a0, d0), (a1, d1), (a2, d2)] (xa, dx)) := (by simp only [pqAdd, eq_true c_2, eq_false c_6, if_true, if_false]; funext i; rcases i with _ | _ | _ | _ | i <;> simp [va_up, pqA]); rw [hq]), ((gFr.refl.up hU4 hM_0 (by simp)).up hU17 hU4.1 (by simp)), (by first | exact Nat.le_zero.mp hk9 | omega)⟩) dJ6_siftUpComparable_51 (Nat.le_of_ble_eq_true rfl) (Nat.le_of_ble_eq_true rfl)
    · refine g_goto hC dJ6_siftUpComparable_33 47 rfl ?_
      refine g_aload_n hC dJ6_siftUpComparable_47 5 rfl gRef_r 48 rfl ?_
      refine g_iload_n hC dJ6_siftUpComparable_48 3 rfl 49 rfl ?_
      refine g_aload_n hC dJ6_siftUpComparable_49 2 rfl gRef_r 50 rfl ?_
      refine g_astq hC hM_0 3 rfl (gOf.of hC.K cI8 hM_1) (Or.inr q3433) (vp_in_nI (n := 3) (by first | decide | omega) (by first | decide | omega)) 3 (nI_clamp (n := 3) (by decide)) dJ6_siftUpComparable_50 51 rfl (fun M18 hU19 => ?_)
      exact g_vret hC (fun k9 hk9 => ⟨(by rw [hU19.1]; have hq : va_up (pqA [(a0, d0), (a1, d1), (a2, d2)]) 3 (some xa) = pqA (pqAdd [(a0, d0), (a1, d1), (a2, d2)] (xa, dx)) := (by simp only [pqAdd, eq_false c_2, if_true, if_false]; funext i; rcases i with _ | _ | _ | _ | i <;> simp [va_up, pqA]); rw [hq]), (gFr.refl.up hU19 hM_0 (by simp)), (by first | exact Nat.le_zero.mp hk9 | omega)⟩) dJ6_siftUpComparable_51 (Nat.le_of_ble_eq_true rfl) (Nat.le_of_ble_eq_true rfl)
set_option maxHeartbeats 4000000 in
theorem met_PQ_sift_3 (l : Launch) (G : gG) (M : gM) (w : Nat) (wq : Nat) (t0 : Nat × Nat) (t1 : Nat × Nat) (mc : Int32) (xa : Nat) (dx : frD) (a0 : Nat) (a1 : Nat) (a2 : Nat) (d0 : frD) (d1 : frD) (d2 : frD)  (hM_0 : M w = some (t0, .inr (20, [.ref wq, .int (nI 3), .null, .int mc]))) (hM_1 : M wq = some (t1, .inl (gcs G 3, 4, .inr (.inr (.inr (.inr (pqA [(a0, d0), (a1, d1), (a2, d2)]))))))) (hM_2 : M xa = some ((0, 1), .inr (8, [.int dx.1, .int (bI dx.2.1), .int dx.2.2.1, .int dx.2.2.2.1, .int dx.2.2.2.2]))) (hM_3 : M a0 = some ((0, 1), .inr (8, [.int d0.1, .int (bI d0.2.1), .int d0.2.2.1, .int d0.2.2.2.1, .int d0.2.2.2.2]))) (hM_4 : M a1 = some ((0, 1), .inr (8, [.int d1.1, .int (bI d1.2.1), .int d1.2.2.1, .int d1.2.2.2.1, .int d1.2.2.2.2]))) (hM_5 : M a2 = some ((0, 1), .inr (8, [.int d2.1, .int (bI d2.2.1), .int d2.2.2.1, .int d2.2.2.2.1, .int d2.2.2.2.2]))) : Met l yJ6_siftUp (ws_ yJ6_siftUp cJ6_siftUp 3 none) ({ frames := 4, cells := 0, slots := 0, locals := 110 }) (gPc G [.ref w, .int (nI 3), .ref xa] M) (gQv G (fun M9 k9 => M9 wq = some (t1, .inl (gcs G 3, 4, .inr (.inr (.inr (.inr (pqA (pqAdd [(a0, d0), (a1, d1), (a2, d2)] (xa, dx)))))))) ∧ gFr (gL [wq]) M M9 ∧ k9 = 0)) 0 0 (gA G) := by
  refine gMet [(0, .ref w), (1, .int (nI 3)), (2, .ref xa)] (by decide) (Nat.le_of_ble_eq_true rfl) rfl ?_
  intro p e s m below meth c hC
  refine g_aload_n hC dJ6_siftUp_0 0 rfl gRef_r 1 rfl ?_
  refine g_get (v := .null) hC cI20 hM_0 2 (Nat.le_of_ble_eq_true rfl) q294 rfl dJ6_siftUp_1 4 rfl ?_
  refine g_ifnull (r := none) hC dJ6_siftUp_4 23 rfl 7 rfl (fun _ => ?_) (fun _ q => by cases q)
  refine g_iload_n hC dJ6_siftUp_23 1 rfl 24 rfl ?_
  refine g_aload_n hC dJ6_siftUp_24 2 rfl gRef_r 25 rfl ?_
  refine g_aload_n hC dJ6_siftUp_25 0 rfl gRef_r 26 rfl ?_
  refine g_get (v := .ref wq) hC cI20 hM_0 0 (Nat.le_of_ble_eq_true rfl) q291 rfl dJ6_siftUp_26 29 rfl ?_
  refine g_callv (g_S (As := [.int (nI 3), .ref xa, .ref wq]) (rest := []) hC msJ6_siftUpComparable q1215 (met_PQ_up_3 l G M wq t1 xa dx a0 a1 a2 d0 d1 d2 hM_1 hM_2 hM_3 hM_4 hM_5) ⟨rfl, rfl⟩ ⟨(Nat.le_of_ble_eq_true rfl), (Nat.le_of_ble_eq_true rfl)⟩ rfl (Nat.le_of_ble_eq_true rfl) dJ6_siftUp_29 rfl ⟨(Nat.le_of_ble_eq_true rfl), (Nat.le_of_ble_eq_true rfl)⟩) 0 (Nat.le_of_ble_eq_true rfl) 0 (Nat.le_of_ble_eq_true rfl) 32 rfl (fun M2 k3 hp4 => ?_)
  obtain ⟨hc6, hF7, hk8⟩ := hp4
  exact g_vret hC (fun k9 hk9 => ⟨hc6, (gFr.refl.trans (hF7.mono (by intro b t hb; simp at hb ⊢; first | done | (rcases hb with rfl | rfl | rfl | rfl <;> simp) | (simp [hb]; done)))), (by first | exact Nat.le_zero.mp hk9 | omega)⟩) dJ6_siftUp_32 (Nat.le_of_ble_eq_true rfl) (Nat.le_of_ble_eq_true rfl)
set_option maxHeartbeats 4000000 in
theorem met_PQ_offer_3 (l : Launch) (G : gG) (M : gM) (w : Nat) (wq : Nat) (t0 : Nat × Nat) (t1 : Nat × Nat) (mc : Int32) (xa : Nat) (dx : frD) (a0 : Nat) (a1 : Nat) (a2 : Nat) (d0 : frD) (d1 : frD) (d2 : frD)  (hM_0 : M w = some (t0, .inr (20, [.ref wq, .int (nI 3), .null, .int mc]))) (hM_1 : M wq = some (t1, .inl (gcs G 3, 4, .inr (.inr (.inr (.inr (pqA [(a0, d0), (a1, d1), (a2, d2)]))))))) (hM_2 : M xa = some ((0, 1), .inr (8, [.int dx.1, .int (bI dx.2.1), .int dx.2.2.1, .int dx.2.2.2.1, .int dx.2.2.2.2]))) (hM_3 : M a0 = some ((0, 1), .inr (8, [.int d0.1, .int (bI d0.2.1), .int d0.2.2.1, .int d0.2.2.2.1, .int d0.2.2.2.2]))) (hM_4 : M a1 = some ((0, 1), .inr (8, [.int d1.1, .int (bI d1.2.1), .int d1.2.2.1, .int d1.2.2.2.1, .int d1.2.2.2.2]))) (hM_5 : M a2 = some ((0, 1), .inr (8, [.int d2.1, .int (bI d2.2.1), .int d2.2.2.1, .int d2.2.2.2.1, .int d2.2.2.2.2]))) : Met l yJ6_offer (ws_ yJ6_offer cJ6_offer 3 (some .boolean)) ({ frames := 5, cells := 0, slots := 0, locals := 140 }) (gPc G [.ref w, .ref xa] M) (gQi G (fun r9 M9 k9 => r9 = 1 ∧ M9 w = some (t0, .inr (20, [.ref wq, .int (nI 4), .null, .int (mc + 1)])) ∧ M9 wq = some (t1, .inl (gcs G 3, 4, .inr (.inr (.inr (.inr (pqA (pqAdd [(a0, d0), (a1, d1), (a2, d2)] (xa, dx)))))))) ∧ gFr (gL [w, wq]) M M9 ∧ k9 = 0)) 0 0 (gA G) := by
  refine gMet [(0, .ref w), (1, .ref xa)] (by decide) (Nat.le_of_ble_eq_true rfl) rfl ?_
  intro p e s m below meth c hC
  refine g_aload_n hC dJ6_offer_0 1 rfl gRef_r 1 rfl ?_
  refine g_ifnonnull (r := some xa) hC dJ6_offer_1 12 rfl 4 rfl (fun _ _ => ?_) (fun q => by cases q)
  refine g_aload_n hC dJ6_offer_12 0 rfl gRef_r 13 rfl ?_
  refine g_dup hC dJ6_offer_13 rfl 14 rfl ?_
  refine g_get (v := .int mc) hC cI20 hM_0 3 (Nat.le_of_ble_eq_true rfl) q296 rfl dJ6_offer_14 17 rfl ?_
  refine g_iconst hC dJ6_offer_17 ki_1 18 rfl ?_
  refine g_iadd hC dJ6_offer_18 19 rfl ?_
  refine g_put hC cI20 hM_0 3 (Nat.le_of_ble_eq_true rfl) q296 rfl rfl rfl (Nat.le_of_ble_eq_true rfl) dJ6_offer_19 (fs' := [.ref wq, .int (nI 3), .null, .int (mc + 1)]) rfl 22 rfl (fun M2 hU3 => ?_)
  refine g_aload_n hC dJ6_offer_22 0 rfl gRef_r 23 rfl ?_
  refine g_get (v := .int (nI 3)) hC cI20 hU3.1 1 (Nat.le_of_ble_eq_true rfl) q293 rfl dJ6_offer_23 26 rfl ?_
  refine g_istore_n hC dJ6_offer_26 rfl (Nat.le_of_ble_eq_true rfl) [(2, .int (nI 3)), (0, .ref w), (1, .ref xa)] rfl 27 rfl ?_
  refine g_iload_n hC dJ6_offer_27 0 rfl 28 rfl ?_
  refine g_aload_n hC dJ6_offer_28 1 rfl gRef_r 29 rfl ?_
  refine g_get (v := .ref wq) hC cI20 hU3.1 0 (Nat.le_of_ble_eq_true rfl) q291 rfl dJ6_offer_29 32 rfl ?_
  refine g_alen (v := nI 4) hC (hU3.n (gne_ao hM_1 hM_0) hM_1) 3 rfl rfl dJ6_offer_32 33 rfl ?_
  refine g_icmp_lt hC dJ6_offer_33 43 rfl 36 rfl (fun c_4 => ?_) (fun c_4 => ?_)
  · replace c_4 : 3 < 4 := nn_lt (by omega) (by omega) c_4
    refine g_aload_n hC dJ6_offer_43 1 rfl gRef_r 44 rfl ?_
    refine g_iload_n hC dJ6_offer_44 0 rfl 45 rfl ?_
    refine g_aload_n hC dJ6_offer_45 2 rfl gRef_r 46 rfl ?_
    refine g_callv (g_V (As := [.int (nI 3), .ref xa]) (rest := []) hC mvJ6_siftUp q1206 (gOf.of hC.K cI20 hU3.1) (met_PQ_sift_3 l G M2 w wq t0 t1 (mc + 1) xa dx a0 a1 a2 d0 d1 d2 hU3.1 (hU3.n (gne_ao hM_1 hM_0) hM_1) (hU3.n (gne_c hM_2 hM_0 (by decide)) hM_2) (hU3.n (gne_c hM_3 hM_0 (by decide)) hM_3) (hU3.n (gne_c hM_4 hM_0 (by decide)) hM_4) (hU3.n (gne_c hM_5 hM_0 (by decide)) hM_5)) ⟨rfl, rfl⟩ ⟨(Nat.le_of_ble_eq_true rfl), (Nat.le_of_ble_eq_true rfl)⟩ rfl (Nat.le_of_ble_eq_true rfl) dJ6_offer_46 rfl ⟨(Nat.le_of_ble_eq_true rfl), (Nat.le_of_ble_eq_true rfl)⟩) 0 (Nat.le_of_ble_eq_true rfl) 0 (Nat.le_of_ble_eq_true rfl) 49 rfl (fun M5 k6 hp7 => ?_)
    obtain ⟨hc9, hF10, hk11⟩ := hp7
    refine g_aload_n hC dJ6_offer_49 1 rfl gRef_r 50 rfl ?_
    refine g_iload_n hC dJ6_offer_50 0 rfl 51 rfl ?_
    refine g_iconst hC dJ6_offer_51 ki_1 52 rfl ?_
    refine g_iadd hC dJ6_offer_52 53 rfl ?_
    refine g_topi (y := 4) (nI_a (a := 3) (b := 1) (c := 4) (by omega)) ?_
    refine g_put hC cI20 (hF10 _ _ _ hU3.1 (gno (gne_oa hU3.1 (hU3.n (gne_ao hM_1 hM_0) hM_1)) gno0)) 1 (Nat.le_of_ble_eq_true rfl) q293 rfl rfl rfl (Nat.le_of_ble_eq_true rfl) dJ6_offer_53 (fs' := [.ref wq, .int 4, .null, .int (mc + 1)]) rfl 56 rfl (fun M12 hU13 => ?_)
    have hH14 := (hU13.n (gne_ao hc9 (hF10 _ _ _ hU3.1 (gno (gne_oa hU3.1 (hU3.n (gne_ao hM_1 hM_0) hM_1)) gno0))) hc9)
    have hH15 := (hU13.n (gne_c (hF10 _ _ _ (hU3.n (gne_c hM_2 hM_0 (by decide)) hM_2) (gno (gne_oa (hU3.n (gne_c hM_2 hM_0 (by decide)) hM_2) (hU3.n (gne_ao hM_1 hM_0) hM_1)) gno0)) (hF10 _ _ _ hU3.1 (gno (gne_oa hU3.1 (hU3.n (gne_ao hM_1 hM_0) hM_1)) gno0)) (by decide)) (hF10 _ _ _ (hU3.n (gne_c hM_2 hM_0 (by decide)) hM_2) (gno (gne_oa (hU3.n (gne_c hM_2 hM_0 (by decide)) hM_2) (hU3.n (gne_ao hM_1 hM_0) hM_1)) gno0)))
    have hH16 := (hU13.n (gne_c (hF10 _ _ _ (hU3.n (gne_c hM_3 hM_0 (by decide)) hM_3) (gno (gne_oa (hU3.n (gne_c hM_3 hM_0 (by decide)) hM_3) (hU3.n (gne_ao hM_1 hM_0) hM_1)) gno0)) (hF10 _ _ _ hU3.1 (gno (gne_oa hU3.1 (hU3.n (gne_ao hM_1 hM_0) hM_1)) gno0)) (by decide)) (hF10 _ _ _ (hU3.n (gne_c hM_3 hM_0 (by decide)) hM_3) (gno (gne_oa (hU3.n (gne_c hM_3 hM_0 (by decide)) hM_3) (hU3.n (gne_ao hM_1 hM_0) hM_1)) gno0)))
    have hH17 := (hU13.n (gne_c (hF10 _ _ _ (hU3.n (gne_c hM_4 hM_0 (by decide)) hM_4) (gno (gne_oa (hU3.n (gne_c hM_4 hM_0 (by decide)) hM_4) (hU3.n (gne_ao hM_1 hM_0) hM_1)) gno0)) (hF10 _ _ _ hU3.1 (gno (gne_oa hU3.1 (hU3.n (gne_ao hM_1 hM_0) hM_1)) gno0)) (by decide)) (hF10 _ _ _ (hU3.n (gne_c hM_4 hM_0 (by decide)) hM_4) (gno (gne_oa (hU3.n (gne_c hM_4 hM_0 (by decide)) hM_4) (hU3.n (gne_ao hM_1 hM_0) hM_1)) gno0)))
    have hH18 := (hU13.n (gne_c (hF10 _ _ _ (hU3.n (gne_c hM_5 hM_0 (by decide)) hM_5) (gno (gne_oa (hU3.n (gne_c hM_5 hM_0 (by decide)) hM_5) (hU3.n (gne_ao hM_1 hM_0) hM_1)) gno0)) (hF10 _ _ _ hU3.1 (gno (gne_oa hU3.1 (hU3.n (gne_ao hM_1 hM_0) hM_1)) gno0)) (by decide)) (hF10 _ _ _ (hU3.n (gne_c hM_5 hM_0 (by decide)) hM_5) (gno (gne_oa (hU3.n (gne_c hM_5 hM_0 (by decide)) hM_5) (hU3.n (gne_ao hM_1 hM_0) hM_1)) gno0)))
    refine g_iconst hC dJ6_offer_56 ki_1 57 rfl ?_
    exact g_zret (v := 1) hC (by decide) (fun k9 hk9 => ⟨rfl, (by rw [hU13.1]; all_goals (first | rfl | (simp only [eq_true c_4, if_true, if_false, true_and, and_true, false_and, and_false, true_or, or_true, false_or, or_false, not_true_eq_false, not_false_eq_true, reduceIte, decide_true, decide_false, Bool.false_eq_true]; done) | (simp only [eq_true c_4, if_true, if_false, true_and, and_true, false_and, and_false, true_or, or_true, false_or, or_false, not_true_eq_false, not_false_eq_true, reduceIte, decide_true, decide_false, Bool.false_eq_true]; rfl) | (simp only [c_4, if_true, if_false, true_and, and_true, false_and, and_false, true_or, or_true, false_or, or_false, not_true_eq_false, not_false_eq_true, reduceIte, decide_true, decide_false, Bool.false_eq_true]; done) | (simp only []; simp only [if_true, if_false, true_and, and_true, false_and, and_false, true_or, or_true, false_or, or_false, not_true_eq_false, not_false_eq_true, reduceIte, decide_true, decide_false, Bool.false_eq_true, eq_true c_4]; done) | (simp only []; simp only [if_true, if_false, true_and, and_true, false_and, and_false, true_or, or_true, false_or, or_false, not_true_eq_false, not_false_eq_true, reduceIte, decide_true, decide_false, Bool.false_eq_true, c_4]; done) | (simp only []; simp only [if_true, if_false, true_and, and_true, false_and, and_false, true_or, or_true, false_or, or_false, not_true_eq_false, not_false_eq_true, reduceIte, decide_true, decide_false, Bool.false_eq_true, c_4]; simp only []; done) | (simp only [c_4, if_true, if_false, true_and, and_true, false_and, and_false, true_or, or_true, false_or, or_false, not_true_eq_false, not_false_eq_true, reduceIte, decide_true, decide_false, Bool.false_eq_true]; rfl) | (simp only []; simp only [if_true, if_false, true_and, and_true, false_and, and_false, true_or, or_true, false_or, or_false, not_true_eq_false, not_false_eq_true, reduceIte, decide_true, decide_false, Bool.false_eq_true, c_4]; rfl) | (simp only []; rfl) | (simp only [c_4, if_true, if_false, true_and, and_true, false_and, and_false, true_or, or_true, false_or, or_false, not_true_eq_false, not_false_eq_true, reduceIte, decide_true, decide_false, Bool.false_eq_true]; rfl) | (simp_all []; done))), hH14, (((gFr.refl.up hU3 hM_0 (by simp)).trans (hF10.mono (by intro b t hb; simp at hb ⊢; first | done | (rcases hb with rfl | rfl | rfl | rfl <;> simp) | (simp [hb]; done)))).up hU13 (hF10 _ _ _ hU3.1 (gno (gne_oa hU3.1 (hU3.n (gne_ao hM_1 hM_0) hM_1)) gno0)) (by simp)), (by first | exact Nat.le_zero.mp hk9 | omega)⟩) dJ6_offer_57 (Nat.le_of_ble_eq_true rfl) (Nat.le_of_ble_eq_true rfl)
  · exact absurd (show 4 ≤ 3 from nn_nlt (by omega) (by omega) c_4) (by omega)
set_option maxHeartbeats 4000000 in
theorem met_PQ_add_3 (l : Launch) (G : gG) (M : gM) (w : Nat) (wq : Nat) (t0 : Nat × Nat) (t1 : Nat × Nat) (mc : Int32) (xa : Nat) (dx : frD) (a0 : Nat) (a1 : Nat) (a2 : Nat) (d0 : frD) (d1 : frD) (d2 : frD)  (hM_0 : M w = some (t0, .inr (20, [.ref wq, .int (nI 3), .null, .int mc]))) (hM_1 : M wq = some (t1, .inl (gcs G 3, 4, .inr (.inr (.inr (.inr (pqA [(a0, d0), (a1, d1), (a2, d2)]))))))) (hM_2 : M xa = some ((0, 1), .inr (8, [.int dx.1, .int (bI dx.2.1), .int dx.2.2.1, .int dx.2.2.2.1, .int dx.2.2.2.2]))) (hM_3 : M a0 = some ((0, 1), .inr (8, [.int d0.1, .int (bI d0.2.1), .int d0.2.2.1, .int d0.2.2.2.1, .int d0.2.2.2.2]))) (hM_4 : M a1 = some ((0, 1), .inr (8, [.int d1.1, .int (bI d1.2.1), .int d1.2.2.1, .int d1.2.2.2.1, .int d1.2.2.2.2]))) (hM_5 : M a2 = some ((0, 1), .inr (8, [.int d2.1, .int (bI d2.2.1), .int d2.2.2.1, .int d2.2.2.2.1, .int d2.2.2.2.2]))) : Met l yJ6_add (ws_ yJ6_add cJ6_add 2 (some .boolean)) ({ frames := 6, cells := 0, slots := 0, locals := 165 }) (gPc G [.ref w, .ref xa] M) (gQi G (fun r9 M9 k9 => r9 = 1 ∧ M9 w = some (t0, .inr (20, [.ref wq, .int (nI 4), .null, .int (mc + 1)])) ∧ M9 wq = some (t1, .inl (gcs G 3, 4, .inr (.inr (.inr (.inr (pqA (pqAdd [(a0, d0), (a1, d1), (a2, d2)] (xa, dx)))))))) ∧ gFr (gL [w, wq]) M M9 ∧ k9 = 0)) 0 0 (gA G) := by
  refine gMet [(0, .ref w), (1, .ref xa)] (by decide) (Nat.le_of_ble_eq_true rfl) rfl ?_
  intro p e s m below meth c hC
  refine g_aload_n hC dJ6_add_0 0 rfl gRef_r 1 rfl ?_
  refine g_aload_n hC dJ6_add_1 1 rfl gRef_r 2 rfl ?_
  refine g_calli (g_V (As := [.ref xa]) (rest := []) hC mvJ6_offer q1175 (gOf.of hC.K cI20 hM_0) (met_PQ_offer_3 l G M w wq t0 t1 mc xa dx a0 a1 a2 d0 d1 d2 hM_0 hM_1 hM_2 hM_3 hM_4 hM_5) ⟨rfl, rfl⟩ ⟨(Nat.le_of_ble_eq_true rfl), (Nat.le_of_ble_eq_true rfl)⟩ rfl (Nat.le_of_ble_eq_true rfl) dJ6_add_2 rfl ⟨(Nat.le_of_ble_eq_true rfl), (Nat.le_of_ble_eq_true rfl)⟩) 0 (Nat.le_of_ble_eq_true rfl) 0 (Nat.le_of_ble_eq_true rfl) 5 rfl (fun r4 M1 k2 hp3 => ?_)
  obtain ⟨rfl, hc5, hc6, hF7, hk8⟩ := hp3
  exact g_zret (v := 1) hC (by decide) (fun k9 hk9 => ⟨rfl, hc5, hc6, (gFr.refl.trans (hF7.mono (by intro b t hb; simp at hb ⊢; first | done | (rcases hb with rfl | rfl | rfl | rfl <;> simp) | (simp [hb]; done)))), (by first | exact Nat.le_zero.mp hk9 | omega)⟩) dJ6_add_5 (Nat.le_of_ble_eq_true rfl) (Nat.le_of_ble_eq_true rfl)
theorem pqAdd_len {L : List pqE} {x : pqE} (h : L.length < 4) : (pqAdd L x).length = L.length + 1 := by
  rcases L with _ | ⟨a, _ | ⟨b, _ | ⟨c, _ | ⟨d, L⟩⟩⟩⟩
  · rfl
  · simp only [pqAdd]; split <;> rfl
  · simp only [pqAdd]; split <;> rfl
  · simp only [pqAdd]; split
    · split <;> rfl
    · rfl
  · simp only [List.length_cons] at h; omega
theorem pqAdd_mem {L : List pqE} {x e : pqE} (h : L.length < 4) : e ∈ pqAdd L x ↔ e = x ∨ e ∈ L := by
  rcases L with _ | ⟨a, _ | ⟨b, _ | ⟨c, _ | ⟨d, L⟩⟩⟩⟩
  · simp [pqAdd]
  · simp only [pqAdd]; split <;> simp [or_comm]
  · simp only [pqAdd]; split <;> simp <;> grind
  · simp only [pqAdd]; split
    · split <;> simp <;> grind
    · simp; grind
  · simp only [List.length_cons] at h; omega
set_option maxHeartbeats 4000000 in
theorem met_PQ_add (l : Launch) (G : gG) (M : gM) (w : Nat) (wq : Nat) (t0 : Nat × Nat) (t1 : Nat × Nat) (mc : Int32) (L : List pqE) (xa : Nat) (dx : frD) (hL : L.length < 4) (hM_0 : M w = some (t0, .inr (20, [.ref wq, .int (nI L.length), .null, .int mc]))) (hM_1 : M wq = some (t1, .inl (gcs G 3, 4, .inr (.inr (.inr (.inr (pqA L))))))) (hM_2 : M xa = some ((0, 1), .inr (8, [.int dx.1, .int (bI dx.2.1), .int dx.2.2.1, .int dx.2.2.2.1, .int dx.2.2.2.2]))) (hP_0 : frs M L) : Met l yJ6_add (ws_ yJ6_add cJ6_add 2 (some .boolean)) ({ frames := 6, cells := 0, slots := 0, locals := 165 }) (gPc G [.ref w, .ref xa] M) (gQi G (fun r9 M9 k9 => r9 = 1 ∧ M9 w = some (t0, .inr (20, [.ref wq, .int (nI (L.length + 1)), .null, .int (mc + 1)])) ∧ M9 wq = some (t1, .inl (gcs G 3, 4, .inr (.inr (.inr (.inr (pqA (pqAdd L (xa, dx)))))))) ∧ frs M9 (pqAdd L (xa, dx)) ∧ gFr (gL [w, wq]) M M9 ∧ k9 = 0)) 0 0 (gA G) := by
  have hpost : ∀ (n : Nat) (r9 : Int32) (M9 : gM) (k9 : Nat), (r9 = 1 ∧ M9 w = some (t0, .inr (20, [.ref wq, .int (nI (L.length + 1)), .null, .int (mc + 1)])) ∧ M9 wq = some (t1, .inl (gcs G 3, 4, .inr (.inr (.inr (.inr (pqA (pqAdd L (xa, dx)))))))) ∧ gFr (gL [w, wq]) M M9 ∧ k9 = 0) → (r9 = 1 ∧ M9 w = some (t0, .inr (20, [.ref wq, .int (nI (L.length + 1)), .null, .int (mc + 1)])) ∧ M9 wq = some (t1, .inl (gcs G 3, 4, .inr (.inr (.inr (.inr (pqA (pqAdd L (xa, dx)))))))) ∧ frs M9 (pqAdd L (xa, dx)) ∧ gFr (gL [w, wq]) M M9 ∧ k9 = 0) := by
    intro n r9 M9 k9 ⟨h1, h2, h3, h4, h5⟩
    refine ⟨h1, h2, h3, fun e he => h4 _ _ _ ?_ ?_, h4, h5⟩
    · rcases (pqAdd_mem hL).mp he with rfl | he
      · exact hM_2
      · exact hP_0 e he
    · have hfe : ∃ fs : List Value, M e.1 = some ((0, 1), .inr (8, fs)) := by
        rcases (pqAdd_mem hL).mp he with rfl | he
        · exact ⟨_, hM_2⟩
        · exact ⟨_, hP_0 e he⟩
      obtain ⟨fs, hfe⟩ := hfe
      exact gno (gne_c hfe hM_0 (by decide)) (gno (gne_oa hfe hM_1) gno0)
  rcases L with _ | ⟨⟨a0, d0⟩, _ | ⟨⟨a1, d1⟩, _ | ⟨⟨a2, d2⟩, _ | ⟨e3, L⟩⟩⟩⟩
  · exact gMono_i (met_PQ_add_0 l G M w wq t0 t1 mc xa dx hM_0 hM_1 hM_2) (hpost 0)
  · exact gMono_i (met_PQ_add_1 l G M w wq t0 t1 mc xa dx a0 d0 hM_0 hM_1 hM_2 (hP_0 (a0, d0) (by simp))) (hpost 1)
  · exact gMono_i (met_PQ_add_2 l G M w wq t0 t1 mc xa dx a0 a1 d0 d1 hM_0 hM_1 hM_2 (hP_0 (a0, d0) (by simp)) (hP_0 (a1, d1) (by simp))) (hpost 2)
  · exact gMono_i (met_PQ_add_3 l G M w wq t0 t1 mc xa dx a0 a1 a2 d0 d1 d2 hM_0 hM_1 hM_2 (hP_0 (a0, d0) (by simp)) (hP_0 (a1, d1) (by simp)) (hP_0 (a2, d2) (by simp))) (hpost 3)
  · simp only [List.length_cons] at hL; omega
set_option maxHeartbeats 4000000 in
theorem met_PQ_size (l : Launch) (G : gG) (M : gM) (w : Nat) (wq : Nat) (t0 : Nat × Nat) (t1 : Nat × Nat) (mc : Int32) (L : List pqE)  (hM_0 : M w = some (t0, .inr (20, [.ref wq, .int (nI L.length), .null, .int mc]))) : Met l yJ6_size (ws_ yJ6_size cJ6_size 1 (some .int)) ({ frames := 0, cells := 0, slots := 0, locals := 0 }) (gPc G [.ref w] M) (gQi G (fun r9 M9 k9 => r9 = (nI L.length) ∧ M9 = M ∧ k9 = 0)) 0 0 (gA G) := by
  refine gMet [(0, .ref w)] (by decide) (Nat.le_of_ble_eq_true rfl) rfl ?_
  intro p e s m below meth c hC
  refine g_aload_n hC dJ6_size_0 0 rfl gRef_r 1 rfl ?_
  refine g_get (v := .int (nI L.length)) hC cI20 hM_0 1 (Nat.le_of_ble_eq_true rfl) q293 rfl dJ6_size_1 4 rfl ?_
  exact g_iret (v := nI L.length) hC (fun k9 hk9 => ⟨rfl, rfl, Nat.le_zero.mp hk9⟩) dJ6_size_4 (Nat.le_of_ble_eq_true rfl) (Nat.le_of_ble_eq_true rfl)
theorem pqA_0 {L : List pqE} : pqA L 0 = (L.head?).map Prod.fst := by cases L <;> rfl
set_option maxHeartbeats 4000000 in
theorem met_PQ_peek (l : Launch) (G : gG) (M : gM) (w : Nat) (wq : Nat) (t0 : Nat × Nat) (t1 : Nat × Nat) (mc : Int32) (L : List pqE)  (hM_0 : M w = some (t0, .inr (20, [.ref wq, .int (nI L.length), .null, .int mc]))) (hM_1 : M wq = some (t1, .inl (gcs G 3, 4, .inr (.inr (.inr (.inr (pqA L))))))) : Met l yJ6_peek (ws_ yJ6_peek cJ6_peek 1 (some (.object "java/lang/Object"))) ({ frames := 0, cells := 0, slots := 0, locals := 0 }) (gPc G [.ref w] M) (gQq G (fun r9 M9 k9 => r9 = (L.head?.map Prod.fst) ∧ M9 = M ∧ k9 = 0)) 0 0 (gA G) := by
  refine gMet [(0, .ref w)] (by decide) (Nat.le_of_ble_eq_true rfl) rfl ?_
  intro p e s m below meth c hC
  refine g_aload_n hC dJ6_peek_0 0 rfl gRef_r 1 rfl ?_
  refine g_get (v := .ref wq) hC cI20 hM_0 0 (Nat.le_of_ble_eq_true rfl) q291 rfl dJ6_peek_1 4 rfl ?_
  refine g_iconst hC dJ6_peek_4 ki_0 5 rfl ?_
  refine g_aldq (r := (pqA L) 0) hC hM_1 3 rfl (vp_in_nI (n := 0) (by first | decide | omega) (by first | decide | omega)) ((congrArg (pqA L) (nI_clamp (n := 0) (by decide))).trans rfl) dJ6_peek_5 6 rfl ?_
  exact g_aret (v := (pqA L) 0) hC (by first | exact Or.inl ⟨_, rfl⟩ | exact Or.inr ⟨_, rfl⟩) (fun k9 hk9 => ⟨pqA_0, rfl, Nat.le_zero.mp hk9⟩) dJ6_peek_6 (Nat.le_of_ble_eq_true rfl) (Nat.le_of_ble_eq_true rfl)
set_option maxHeartbeats 4000000 in
theorem met_PQ_isEmpty (l : Launch) (G : gG) (M : gM) (w : Nat) (wq : Nat) (t0 : Nat × Nat) (t1 : Nat × Nat) (mc : Int32) (L : List pqE) (hL : L.length ≤ 4) (hM_0 : M w = some (t0, .inr (20, [.ref wq, .int (nI L.length), .null, .int mc]))) : Met l yJ0_isEmpty (ws_ yJ0_isEmpty cJ0_isEmpty 1 (some .boolean)) ({ frames := 1, cells := 0, slots := 0, locals := 20 }) (gPc G [.ref w] M) (gQi G (fun r9 M9 k9 => r9 = (bI (decide (L.length = 0))) ∧ M9 = M ∧ k9 = 0)) 0 0 (gA G) := by
  refine gMet [(0, .ref w)] (by decide) (Nat.le_of_ble_eq_true rfl) rfl ?_
  intro p e s m below meth c hC
  refine g_aload_n hC dJ0_isEmpty_0 0 rfl gRef_r 1 rfl ?_
  refine g_calliP (g_U (n := 0) (As := []) (rest := []) hC ⟨q3400, q3404, q1139, q114, q1141, (Or.inr q1296), by decide +kernel⟩ q2306 (gOf.of hC.K cI20 hM_0) (met_PQ_size l G M w wq t0 t1 mc L hM_0) ⟨rfl, rfl⟩ ⟨(Nat.le_of_ble_eq_true rfl), (Nat.le_of_ble_eq_true rfl)⟩ rfl (Nat.le_of_ble_eq_true rfl) dJ0_isEmpty_1 rfl ⟨(Nat.le_of_ble_eq_true rfl), (Nat.le_of_ble_eq_true rfl)⟩) 4 rfl 0 (Nat.le_of_ble_eq_true rfl) ?_
  refine g_if_ne hC dJ0_isEmpty_4 11 rfl 7 rfl (fun c_1 => ?_) (fun c_1 => ?_)
  · replace c_1 : ¬ L.length = 0 := nn_neq (by omega) (by omega) c_1
    refine g_iconst hC dJ0_isEmpty_11 ki_0 12 rfl ?_
    exact g_zret (v := 0) hC (by decide) (fun k9 hk9 => ⟨(bI_nd c_1), rfl, Nat.le_zero.mp hk9⟩) dJ0_isEmpty_12 (Nat.le_of_ble_eq_true rfl) (Nat.le_of_ble_eq_true rfl)
  · replace c_1 : L.length = 0 := nn_eq (by omega) (by omega) c_1
    refine g_iconst hC dJ0_isEmpty_7 ki_1 8 rfl ?_
    refine g_goto hC dJ0_isEmpty_8 12 rfl ?_
    exact g_zret (v := 1) hC (by decide) (fun k9 hk9 => ⟨(bI_d c_1), rfl, Nat.le_zero.mp hk9⟩) dJ0_isEmpty_12 (Nat.le_of_ble_eq_true rfl) (Nat.le_of_ble_eq_true rfl)
set_option maxHeartbeats 4000000 in
theorem met_PQ_init2 (l : Launch) (G : gG) (M : gM) (w : Nat) (t0 : Nat × Nat) (t1 : Nat × Nat)  (hM_0 : M w = some (t0, .inr (20, [.null, .int 0, .null, .int 0]))) : Met l yJ6_init_2 (ws_ yJ6_init_2 cJ6_init_2 3 none) ({ frames := 3, cells := 1, slots := 4, locals := 52 }) (gPc G [.ref w, .int 4, .null] M) (gQv G (fun M9 k9 => ∃ wq : Nat, M9 w = some (t0, .inr (20, [.ref wq, .int (nI 0), .null, .int 0])) ∧ M9 wq = some (t1, .inl (gcs G 3, 4, .inr (.inr (.inr (.inr (pqA [])))))) ∧ gFr (gL [w]) M M9 ∧ M wq = none ∧ k9 ≤ 1)) 1 4 (gA G) := by
  refine gMet [(0, .ref w), (1, .int 4), (2, .null)] (by decide) (Nat.le_of_ble_eq_true rfl) rfl ?_
  intro p e s m below meth c hC
  refine g_aload_n hC dJ6_init_2_0 0 rfl gRef_r 1 rfl ?_
  refine g_callvP (g_I (As := []) (rest := []) hC miJ5_init q284 (met_J5_init l G M w) ⟨rfl, rfl⟩ ⟨(Nat.le_of_ble_eq_true rfl), (Nat.le_of_ble_eq_true rfl)⟩ rfl (Nat.le_of_ble_eq_true rfl) dJ6_init_2_1 rfl ⟨(Nat.le_of_ble_eq_true rfl), (Nat.le_of_ble_eq_true rfl)⟩) 4 rfl 0 (Nat.le_of_ble_eq_true rfl) ?_
  refine g_iload_n hC dJ6_init_2_4 1 rfl 5 rfl ?_
  refine g_iconst hC dJ6_init_2_5 ki_1 6 rfl ?_
  refine g_icmp_ge hC dJ6_init_2_6 17 rfl 9 rfl (fun c_1 => ?_) (fun c_1 => ?_)
  · refine g_aload_n hC dJ6_init_2_17 0 rfl gRef_r 18 rfl ?_
    refine g_iload_n hC dJ6_init_2_18 1 rfl 19 rfl ?_
    refine g_newq hC q288 hC.K.2.2.2.2.2.1.1 3 rfl t1 (n := 4) (N := 4) (by decide) (by decide) (Nat.le_of_ble_eq_true rfl) (Nat.le_of_ble_eq_true rfl) (Nat.le_of_ble_eq_true rfl) 1 (Nat.le_of_ble_eq_true rfl) 4 (Nat.le_of_ble_eq_true rfl) dJ6_init_2_19 22 rfl (fun a2 M3 hN4 => ?_)
    refine g_put hC cI20 (hN4.n hM_0) 0 (Nat.le_of_ble_eq_true rfl) q291 rfl rfl rfl (Nat.le_of_ble_eq_true rfl) dJ6_init_2_22 (fs' := [.ref a2, .int 0, .null, .int 0]) rfl 25 rfl (fun M5 hU6 => ?_)
    refine g_aload_n hC dJ6_init_2_25 0 rfl gRef_r 26 rfl ?_
    refine g_aload_n hC dJ6_init_2_26 2 rfl gRef_n 27 rfl ?_
    refine g_putF hC cI20 hU6.1 2 (Nat.le_of_ble_eq_true rfl) q294 rfl rfl rfl rfl (Nat.le_of_ble_eq_true rfl) dJ6_init_2_27 (fs' := [.ref a2, .int 0, .null, .int 0]) rfl 30 rfl (fun M7 hU8 => ?_)
    have hH9 := (hU8.n (Ne.symm (hN4.ne hM_0)) (hU6.n (Ne.symm (hN4.ne hM_0)) hN4.2.1))
    exact g_vret hC (fun k9 hk9 => ⟨a2, (by rw [hU8.1]; rfl), (by rw [hH9, show (fun _ => none : Nat → Option Nat) = pqA [] from rfl]), (((gFr.refl.nw hN4).up hU6 (hN4.n hM_0) (by simp)).up hU8 hU6.1 (by simp)), (hN4.1), (by first | exact Nat.le_zero.mp hk9 | omega)⟩) dJ6_init_2_30 (Nat.le_of_ble_eq_true rfl) (Nat.le_of_ble_eq_true rfl)
  · exact absurd c_1 (by decide)
set_option maxHeartbeats 4000000 in
theorem met_PQ_init (l : Launch) (G : gG) (M : gM) (w : Nat) (t0 : Nat × Nat) (t1 : Nat × Nat)  (hM_0 : M w = some (t0, .inr (20, [.null, .int 0, .null, .int 0]))) : Met l yJ6_init (ws_ yJ6_init cJ6_init 2 none) ({ frames := 4, cells := 1, slots := 4, locals := 74 }) (gPc G [.ref w, .int 4] M) (gQv G (fun M9 k9 => ∃ wq : Nat, M9 w = some (t0, .inr (20, [.ref wq, .int (nI 0), .null, .int 0])) ∧ M9 wq = some (t1, .inl (gcs G 3, 4, .inr (.inr (.inr (.inr (pqA [])))))) ∧ gFr (gL [w]) M M9 ∧ M wq = none ∧ k9 ≤ 1)) 1 4 (gA G) := by
  refine gMet [(0, .ref w), (1, .int 4)] (by decide) (Nat.le_of_ble_eq_true rfl) rfl ?_
  intro p e s m below meth c hC
  refine g_aload_n hC dJ6_init_0 0 rfl gRef_r 1 rfl ?_
  refine g_iload_n hC dJ6_init_1 1 rfl 2 rfl ?_
  refine g_null hC dJ6_init_2 3 rfl ?_
  refine g_callv (g_I (As := [.int 4, .null]) (rest := []) hC miJ6_init_2 q281 (met_PQ_init2 l G M w t0 t1 hM_0) ⟨rfl, rfl⟩ ⟨(Nat.le_of_ble_eq_true rfl), (Nat.le_of_ble_eq_true rfl)⟩ rfl (Nat.le_of_ble_eq_true rfl) dJ6_init_3 rfl ⟨(Nat.le_of_ble_eq_true rfl), (Nat.le_of_ble_eq_true rfl)⟩) 1 (Nat.le_of_ble_eq_true rfl) 4 (Nat.le_of_ble_eq_true rfl) 6 rfl (fun M1 k2 hp3 => ?_)
  obtain ⟨wq_5, hc6, hc7, hF8, hq9, hk10⟩ := hp3
  exact g_vret hC (fun k9 hk9 => ⟨wq_5, hc6, hc7, (gFr.refl.trans (hF8.mono (by intro b t hb; simp at hb ⊢; first | done | (rcases hb with rfl | rfl | rfl | rfl <;> simp) | (simp [hb]; done)))), hq9, (by first | exact Nat.le_zero.mp hk9 | omega)⟩) dJ6_init_6 (Nat.le_of_ble_eq_true rfl) (Nat.le_of_ble_eq_true rfl)
set_option maxHeartbeats 4000000 in
theorem met_PQi_init (l : Launch) (G : gG) (M : gM) (w : Nat) (wq : Nat) (t0 : Nat × Nat) (t1 : Nat × Nat) (mc : Int32) (L : List pqE) (it : Nat)  (hM_0 : M w = some (t0, .inr (20, [.ref wq, .int (nI L.length), .null, .int mc]))) (hM_1 : M it = some ((9, 0), .inr (21, [.int 0, .int 0, .null, .null, .int 0, .null]))) : Met l yJ23_init (ws_ yJ23_init cJ23_init 2 none) ({ frames := 1, cells := 0, slots := 0, locals := 12 }) (gPc G [.ref it, .ref w] M) (gQv G (fun M9 k9 => M9 it = some ((9, 0), .inr (21, [.int 0, .int (-1), .null, .null, .int mc, .ref w])) ∧ gFr (gL [it]) M M9 ∧ k9 = 0)) 0 0 (gA G) := by
  refine gMet [(0, .ref it), (1, .ref w)] (by decide) (Nat.le_of_ble_eq_true rfl) rfl ?_
  intro p e s m below meth c hC
  refine g_aload_n hC dJ23_init_0 0 rfl gRef_r 1 rfl ?_
  refine g_aload_n hC dJ23_init_1 1 rfl gRef_r 2 rfl ?_
  refine g_putF hC cI21 hM_1 5 (Nat.le_of_ble_eq_true rfl) q1245 rfl rfl rfl rfl (Nat.le_of_ble_eq_true rfl) dJ23_init_2 (fs' := [.int 0, .int 0, .null, .null, .int 0, .ref w]) rfl 5 rfl (fun M1 hU2 => ?_)
  refine g_aload_n hC dJ23_init_5 0 rfl gRef_r 6 rfl ?_
  refine g_objInit hC q1239 q176 q177 dJ23_init_6 (Nat.le_of_ble_eq_true rfl) (Nat.le_of_ble_eq_true rfl) 9 rfl ?_
  refine g_aload_n hC dJ23_init_9 0 rfl gRef_r 10 rfl ?_
  refine g_iconst hC dJ23_init_10 ki_m1 11 rfl ?_
  refine g_put hC cI21 hU2.1 1 (Nat.le_of_ble_eq_true rfl) q1241 rfl rfl rfl (Nat.le_of_ble_eq_true rfl) dJ23_init_11 (fs' := [.int 0, .int (-1), .null, .null, .int 0, .ref w]) rfl 14 rfl (fun M3 hU4 => ?_)
  refine g_aload_n hC dJ23_init_14 0 rfl gRef_r 15 rfl ?_
  refine g_aload_n hC dJ23_init_15 0 rfl gRef_r 16 rfl ?_
  refine g_get (v := .ref w) hC cI21 hU4.1 5 (Nat.le_of_ble_eq_true rfl) q1245 rfl dJ23_init_16 19 rfl ?_
  refine g_get (v := .int mc) hC cI20 (hU4.n (gne_c (hU2.n (gne_c hM_0 hM_1 (by decide)) hM_0) hU2.1 (by decide)) (hU2.n (gne_c hM_0 hM_1 (by decide)) hM_0)) 3 (Nat.le_of_ble_eq_true rfl) q295 rfl dJ23_init_19 22 rfl ?_
  refine g_put hC cI21 hU4.1 4 (Nat.le_of_ble_eq_true rfl) q1244 rfl rfl rfl (Nat.le_of_ble_eq_true rfl) dJ23_init_22 (fs' := [.int 0, .int (-1), .null, .null, .int mc, .ref w]) rfl 25 rfl (fun M5 hU6 => ?_)
  have hH7 := (hU6.n (gne_c (hU4.n (gne_c (hU2.n (gne_c hM_0 hM_1 (by decide)) hM_0) hU2.1 (by decide)) (hU2.n (gne_c hM_0 hM_1 (by decide)) hM_0)) hU4.1 (by decide)) (hU4.n (gne_c (hU2.n (gne_c hM_0 hM_1 (by decide)) hM_0) hU2.1 (by decide)) (hU2.n (gne_c hM_0 hM_1 (by decide)) hM_0)))
  exact g_vret hC (fun k9 hk9 => ⟨hU6.1, (((gFr.refl.up hU2 hM_1 (by simp)).up hU4 hU2.1 (by simp)).up hU6 hU4.1 (by simp)), (by first | exact Nat.le_zero.mp hk9 | omega)⟩) dJ23_init_25 (Nat.le_of_ble_eq_true rfl) (Nat.le_of_ble_eq_true rfl)
set_option maxHeartbeats 4000000 in
theorem met_PQ_iterator (l : Launch) (G : gG) (M : gM) (w : Nat) (wq : Nat) (t0 : Nat × Nat) (t1 : Nat × Nat) (mc : Int32) (L : List pqE)  (hM_0 : M w = some (t0, .inr (20, [.ref wq, .int (nI L.length), .null, .int mc]))) : Met l yJ6_iterator (ws_ yJ6_iterator cJ6_iterator 1 (some (.object "java/util/Iterator"))) ({ frames := 2, cells := 1, slots := 6, locals := 33 }) (gPc G [.ref w] M) (gQq G (fun r9 M9 k9 => ∃ it : Nat, r9 = (some it) ∧ M9 it = some ((9, 0), .inr (21, [.int 0, .int (-1), .null, .null, .int mc, .ref w])) ∧ gFr (gL []) M M9 ∧ k9 ≤ 1)) 1 6 (gA G) := by
  refine gMet [(0, .ref w)] (by decide) (Nat.le_of_ble_eq_true rfl) rfl ?_
  intro p e s m below meth c hC
  refine g_new hC cI21 q1234 q1235 q139 df21 (9, 0) (Nat.le_of_ble_eq_true rfl) (Nat.le_of_ble_eq_true rfl) 1 (Nat.le_of_ble_eq_true rfl) 6 (Nat.le_of_ble_eq_true rfl) dJ6_iterator_0 3 rfl (fun a1 M2 hN3 => ?_)
  refine g_dup hC dJ6_iterator_3 rfl 4 rfl ?_
  refine g_aload_n hC dJ6_iterator_4 0 rfl gRef_r 5 rfl ?_
  refine g_callv (g_I (As := [.ref w]) (rest := [.ref a1]) hC miJ23_init q1236 (met_PQi_init l G M2 w wq t0 t1 mc L a1 (hN3.n hM_0) hN3.2.1) ⟨rfl, rfl⟩ ⟨(Nat.le_of_ble_eq_true rfl), (Nat.le_of_ble_eq_true rfl)⟩ rfl (Nat.le_of_ble_eq_true rfl) dJ6_iterator_5 rfl ⟨(Nat.le_of_ble_eq_true rfl), (Nat.le_of_ble_eq_true rfl)⟩) 1 (Nat.le_of_ble_eq_true rfl) 6 (Nat.le_of_ble_eq_true rfl) 8 rfl (fun M4 k5 hp6 => ?_)
  obtain ⟨hc8, hF9, hk10⟩ := hp6
  exact g_aret (v := some a1) hC (by first | exact Or.inl ⟨_, rfl⟩ | exact Or.inr ⟨_, rfl⟩) (fun k9 hk9 => ⟨a1, rfl, (by rw [hc8]; all_goals (first | rfl | (simp only [if_true, if_false, true_and, and_true, false_and, and_false, true_or, or_true, false_or, or_false, not_true_eq_false, not_false_eq_true, reduceIte, decide_true, decide_false, Bool.false_eq_true]; done) | (simp only [if_true, if_false, true_and, and_true, false_and, and_false, true_or, or_true, false_or, or_false, not_true_eq_false, not_false_eq_true, reduceIte, decide_true, decide_false, Bool.false_eq_true]; rfl) | (simp only [if_true, if_false, true_and, and_true, false_and, and_false, true_or, or_true, false_or, or_false, not_true_eq_false, not_false_eq_true, reduceIte, decide_true, decide_false, Bool.false_eq_true]; done) | (simp only []; simp only [if_true, if_false, true_and, and_true, false_and, and_false, true_or, or_true, false_or, or_false, not_true_eq_false, not_false_eq_true, reduceIte, decide_true, decide_false, Bool.false_eq_true]; done) | (simp only []; simp only [if_true, if_false, true_and, and_true, false_and, and_false, true_or, or_true, false_or, or_false, not_true_eq_false, not_false_eq_true, reduceIte, decide_true, decide_false, Bool.false_eq_true]; done) | (simp only []; simp only [if_true, if_false, true_and, and_true, false_and, and_false, true_or, or_true, false_or, or_false, not_true_eq_false, not_false_eq_true, reduceIte, decide_true, decide_false, Bool.false_eq_true]; simp only []; done) | (simp only [if_true, if_false, true_and, and_true, false_and, and_false, true_or, or_true, false_or, or_false, not_true_eq_false, not_false_eq_true, reduceIte, decide_true, decide_false, Bool.false_eq_true]; rfl) | (simp only []; simp only [if_true, if_false, true_and, and_true, false_and, and_false, true_or, or_true, false_or, or_false, not_true_eq_false, not_false_eq_true, reduceIte, decide_true, decide_false, Bool.false_eq_true]; rfl) | (simp only []; rfl) | (simp only [if_true, if_false, true_and, and_true, false_and, and_false, true_or, or_true, false_or, or_false, not_true_eq_false, not_false_eq_true, reduceIte, decide_true, decide_false, Bool.false_eq_true]; rfl) | (simp_all []; done))), ((gFr.refl.nw hN3).trf hF9 (fun b t e hb hn => (gno (hN3.ne (gFr.refl b t e hb hn)) gno0))), (by first | exact Nat.le_zero.mp hk9 | omega)⟩) dJ6_iterator_8 (Nat.le_of_ble_eq_true rfl) (Nat.le_of_ble_eq_true rfl)
set_option maxHeartbeats 4000000 in
theorem met_PQi_hasNext (l : Launch) (G : gG) (M : gM) (w : Nat) (wq : Nat) (t0 : Nat × Nat) (t1 : Nat × Nat) (mc : Int32) (L : List pqE) (it : Nat) (i : Nat) (lr : Int32) (hL : L.length ≤ 4) (hi : i ≤ 4) (hM_0 : M it = some ((9, 0), .inr (21, [.int (nI i), .int lr, .null, .null, .int mc, .ref w]))) (hM_1 : M w = some (t0, .inr (20, [.ref wq, .int (nI L.length), .null, .int mc]))) : Met l yJ23_hasNext (ws_ yJ23_hasNext cJ23_hasNext 1 (some .boolean)) ({ frames := 0, cells := 0, slots := 0, locals := 0 }) (gPc G [.ref it] M) (gQi G (fun r9 M9 k9 => r9 = (bI (decide (i < L.length))) ∧ M9 = M ∧ k9 = 0)) 0 0 (gA G) := by
  refine gMet [(0, .ref it)] (by decide) (Nat.le_of_ble_eq_true rfl) rfl ?_
  intro p e s m below meth c hC
  refine g_aload_n hC dJ23_hasNext_0 0 rfl gRef_r 1 rfl ?_
  refine g_get (v := .int (nI i)) hC cI21 hM_0 0 (Nat.le_of_ble_eq_true rfl) q1240 rfl dJ23_hasNext_1 4 rfl ?_
  refine g_aload_n hC dJ23_hasNext_4 0 rfl gRef_r 5 rfl ?_
  refine g_get (v := .ref w) hC cI21 hM_0 5 (Nat.le_of_ble_eq_true rfl) q1245 rfl dJ23_hasNext_5 8 rfl ?_
  refine g_get (v := .int (nI L.length)) hC cI20 hM_1 1 (Nat.le_of_ble_eq_true rfl) q292 rfl dJ23_hasNext_8 11 rfl ?_
  refine g_icmp_lt hC dJ23_hasNext_11 31 rfl 14 rfl (fun c_1 => ?_) (fun c_1 => ?_)
  · replace c_1 : i < L.length := nn_lt (by omega) (by omega) c_1
    refine g_iconst hC dJ23_hasNext_31 ki_1 32 rfl ?_
    refine g_goto hC dJ23_hasNext_32 36 rfl ?_
    exact g_zret (v := 1) hC (by decide) (fun k9 hk9 => ⟨(bI_d (by omega)), rfl, Nat.le_zero.mp hk9⟩) dJ23_hasNext_36 (Nat.le_of_ble_eq_true rfl) (Nat.le_of_ble_eq_true rfl)
  · replace c_1 : L.length ≤ i := nn_nlt (by omega) (by omega) c_1
    refine g_aload_n hC dJ23_hasNext_14 0 rfl gRef_r 15 rfl ?_
    refine g_get (v := .null) hC cI21 hM_0 2 (Nat.le_of_ble_eq_true rfl) q1242 rfl dJ23_hasNext_15 18 rfl ?_
    refine g_ifnull (r := none) hC dJ23_hasNext_18 35 rfl 21 rfl (fun _ => ?_) (fun _ q => by cases q)
    refine g_iconst hC dJ23_hasNext_35 ki_0 36 rfl ?_
    exact g_zret (v := 0) hC (by decide) (fun k9 hk9 => ⟨(bI_nd (by omega)), rfl, Nat.le_zero.mp hk9⟩) dJ23_hasNext_36 (Nat.le_of_ble_eq_true rfl) (Nat.le_of_ble_eq_true rfl)
set_option maxHeartbeats 4000000 in
theorem met_PQi_next (l : Launch) (G : gG) (M : gM) (w : Nat) (wq : Nat) (t0 : Nat × Nat) (t1 : Nat × Nat) (mc : Int32) (L : List pqE) (it : Nat) (i : Nat) (lr : Int32) (e9 : pqE) (hL : L.length ≤ 4) (he : L[i]? = some e9) (hM_0 : M it = some ((9, 0), .inr (21, [.int (nI i), .int lr, .null, .null, .int mc, .ref w]))) (hM_1 : M w = some (t0, .inr (20, [.ref wq, .int (nI L.length), .null, .int mc]))) (hM_2 : M wq = some (t1, .inl (gcs G 3, 4, .inr (.inr (.inr (.inr (pqA L))))))) : Met l yJ23_next (ws_ yJ23_next cJ23_next 1 (some (.object "java/lang/Object"))) ({ frames := 0, cells := 0, slots := 0, locals := 0 }) (gPc G [.ref it] M) (gQq G (fun r9 M9 k9 => r9 = (some e9.1) ∧ M9 it = some ((9, 0), .inr (21, [.int (nI (i + 1)), .int (nI i), .null, .null, .int mc, .ref w])) ∧ gFr (gL [it]) M M9 ∧ k9 = 0)) 0 0 (gA G) := by
  refine gMet [(0, .ref it)] (by decide) (Nat.le_of_ble_eq_true rfl) rfl ?_
  intro p e s m below meth c hC
  have hq : pqA L i = some e9.1 := by simp only [pqA, he, Option.map_some]
  have hil : i < L.length := (List.getElem?_eq_some_iff.mp he).1
  refine g_aload_n hC dJ23_next_0 0 rfl gRef_r 1 rfl ?_
  refine g_get (v := .int mc) hC cI21 hM_0 4 (Nat.le_of_ble_eq_true rfl) q1244 rfl dJ23_next_1 4 rfl ?_
  refine g_aload_n hC dJ23_next_4 0 rfl gRef_r 5 rfl ?_
  refine g_get (v := .ref w) hC cI21 hM_0 5 (Nat.le_of_ble_eq_true rfl) q1245 rfl dJ23_next_5 8 rfl ?_
  refine g_get (v := .int mc) hC cI20 hM_1 3 (Nat.le_of_ble_eq_true rfl) q295 rfl dJ23_next_8 11 rfl ?_
  refine g_icmp_eq hC dJ23_next_11 22 rfl 14 rfl (fun c_1 => ?_) (fun c_1 => ?_)
  · refine g_aload_n hC dJ23_next_22 0 rfl gRef_r 23 rfl ?_
    refine g_get (v := .int (nI i)) hC cI21 hM_0 0 (Nat.le_of_ble_eq_true rfl) q1240 rfl dJ23_next_23 26 rfl ?_
    refine g_aload_n hC dJ23_next_26 0 rfl gRef_r 27 rfl ?_
    refine g_get (v := .ref w) hC cI21 hM_0 5 (Nat.le_of_ble_eq_true rfl) q1245 rfl dJ23_next_27 30 rfl ?_
    refine g_get (v := .int (nI L.length)) hC cI20 hM_1 1 (Nat.le_of_ble_eq_true rfl) q292 rfl dJ23_next_30 33 rfl ?_
    refine g_icmp_ge hC dJ23_next_33 61 rfl 36 rfl (fun c_2 => ?_) (fun c_2 => ?_)
    · replace c_2 : L.length ≤ i := nn_le (by omega) (by omega) c_2
      exact absurd c_2 (by omega)
    · replace c_2 : i < L.length := nn_nle (by omega) (by omega) c_2
      refine g_aload_n hC dJ23_next_36 0 rfl gRef_r 37 rfl ?_
      refine g_get (v := .ref w) hC cI21 hM_0 5 (Nat.le_of_ble_eq_true rfl) q1245 rfl dJ23_next_37 40 rfl ?_
      refine g_get (v := .ref wq) hC cI20 hM_1 0 (Nat.le_of_ble_eq_true rfl) q290 rfl dJ23_next_40 43 rfl ?_
      refine g_aload_n hC dJ23_next_43 0 rfl gRef_r 44 rfl ?_
      refine g_aload_n hC dJ23_next_44 0 rfl gRef_r 45 rfl ?_
      refine g_dup hC dJ23_next_45 rfl 46 rfl ?_
      refine g_get (v := .int (nI i)) hC cI21 hM_0 0 (Nat.le_of_ble_eq_true rfl) q1240 rfl dJ23_next_46 49 rfl ?_
      refine g_dup_x1 hC dJ23_next_49 rfl rfl 50 rfl ?_
      refine g_iconst hC dJ23_next_50 ki_1 51 rfl ?_
      refine g_iadd hC dJ23_next_51 52 rfl ?_
      refine g_topi (y := nI (i + 1)) (nI_a (a := i) (b := 1) (c := (i + 1)) (by omega)) ?_
      refine g_put hC cI21 hM_0 0 (Nat.le_of_ble_eq_true rfl) q1240 rfl rfl rfl (Nat.le_of_ble_eq_true rfl) dJ23_next_52 (fs' := [.int (nI (i + 1)), .int lr, .null, .null, .int mc, .ref w]) rfl 55 rfl (fun M3 hU4 => ?_)
      refine g_dup_x1 hC dJ23_next_55 rfl rfl 56 rfl ?_
      refine g_put hC cI21 hU4.1 1 (Nat.le_of_ble_eq_true rfl) q1241 rfl rfl rfl (Nat.le_of_ble_eq_true rfl) dJ23_next_56 (fs' := [.int (nI (i + 1)), .int (nI i), .null, .null, .int mc, .ref w]) rfl 59 rfl (fun M5 hU6 => ?_)
      refine g_aldq (r := some e9.1) hC (hU6.n (gne_ao (hU4.n (gne_ao hM_2 hM_0) hM_2) hU4.1) (hU4.n (gne_ao hM_2 hM_0) hM_2)) 3 rfl (vp_in_nI (by omega) (by omega)) ((congrArg (pqA L) (nI_clamp (by omega))).trans hq) dJ23_next_59 60 rfl ?_
      exact g_aret (v := some e9.1) hC (by first | exact Or.inl ⟨_, rfl⟩ | exact Or.inr ⟨_, rfl⟩) (fun k9 hk9 => ⟨rfl, hU6.1, ((gFr.refl.up hU4 hM_0 (by simp)).up hU6 hU4.1 (by simp)), (by first | exact Nat.le_zero.mp hk9 | omega)⟩) dJ23_next_60 (Nat.le_of_ble_eq_true rfl) (Nat.le_of_ble_eq_true rfl)
  · exact absurd rfl c_1
def pqPoll (L : List pqE) : List pqE := match L with
  | [_, b] => [b]
  | [_, b, c] => if cmpF c.2 b.2 ≤ 0 then [c, b] else [b, c]
  | [_, b, c, d] => if 0 < cmpF b.2 c.2 then (if cmpF d.2 c.2 ≤ 0 then [d, b, c] else [c, b, d]) else (if cmpF d.2 b.2 ≤ 0 then [d, b, c] else [b, d, c])
  | _ => []
set_option maxHeartbeats 4000000 in
theorem met_PQ_down_2 (l : Launch) (G : gG) (M : gM) (wq : Nat) (t1 : Nat × Nat) (a0 : Nat) (a1 : Nat) (d0 : frD) (d1 : frD)  (hM_0 : M wq = some (t1, .inl (gcs G 3, 4, .inr (.inr (.inr (.inr (va_up (pqA [(a0, d0), (a1, d1)]) 1 none))))))) (hM_1 : M a1 = some ((0, 1), .inr (8, [.int d1.1, .int (bI d1.2.1), .int d1.2.2.1, .int d1.2.2.2.1, .int d1.2.2.2.2]))) : Met l yJ6_siftDownComparable (ws_ yJ6_siftDownComparable cJ6_siftDownComparable 9 none) ({ frames := 3, cells := 0, slots := 0, locals := 80 }) (gPc G [.int 0, .ref a1, .ref wq, .int 1] M) (gQv G (fun M9 k9 => M9 wq = some (t1, .inl (gcs G 3, 4, .inr (.inr (.inr (.inr (pqA (pqPoll [(a0, d0), (a1, d1)]))))))) ∧ gFr (gL [wq]) M M9 ∧ k9 = 0)) 0 0 (gA G) := by
  refine gMet [(0, .int 0), (1, .ref a1), (2, .ref wq), (3, .int 1)] (by decide) (Nat.le_of_ble_eq_true rfl) rfl ?_
  intro p e s m below meth c hC
  refine g_aload_n hC dJ6_siftDownComparable_0 1 rfl gRef_r 1 rfl ?_
  refine g_cast hC (gOf.of hC.K cI8 hM_1) q632 q1218 dJ6_siftDownComparable_1 4 rfl ?_
  refine g_astore hC dJ6_siftDownComparable_4 gRef_r (Nat.le_of_ble_eq_true rfl) [(4, .ref a1), (0, .int 0), (1, .ref a1), (2, .ref wq), (3, .int 1)] rfl 6 rfl ?_
  refine g_iload_n hC dJ6_siftDownComparable_6 4 rfl 7 rfl ?_
  refine g_iconst hC dJ6_siftDownComparable_7 ki_1 8 rfl ?_
  refine g_iushr (v := 0) hC dJ6_siftDownComparable_8 (by decide) 9 rfl ?_
  refine g_istore hC dJ6_siftDownComparable_9 (Nat.le_of_ble_eq_true rfl) [(5, .int 0), (4, .ref a1), (0, .int 0), (1, .ref a1), (2, .ref wq), (3, .int 1)] rfl 11 rfl ?_
  refine g_iload_n hC dJ6_siftDownComparable_11 2 rfl 12 rfl ?_
  refine g_iload hC dJ6_siftDownComparable_12 0 rfl 14 rfl ?_
  refine g_icmp_ge hC dJ6_siftDownComparable_14 94 rfl 17 rfl (fun c_1 => ?_) (fun c_1 => ?_)
  · refine g_aload_n hC dJ6_siftDownComparable_94 4 rfl gRef_r 95 rfl ?_
    refine g_iload_n hC dJ6_siftDownComparable_95 2 rfl 96 rfl ?_
    refine g_aload hC dJ6_siftDownComparable_96 1 rfl gRef_r 98 rfl ?_
    refine g_astq hC hM_0 3 rfl (gOf.of hC.K cI8 hM_1) (Or.inr q3433) (vp_in_nI (n := 0) (by first | decide | omega) (by first | decide | omega)) 0 (nI_clamp (n := 0) (by decide)) dJ6_siftDownComparable_98 99 rfl (fun M2 hU3 => ?_)
    exact g_vret hC (fun k9 hk9 => ⟨(by rw [hU3.1]; have hq : va_up (va_up (pqA [(a0, d0), (a1, d1)]) 1 none) 0 (some a1) = pqA (pqPoll [(a0, d0), (a1, d1)]) := (by simp only [pqPoll, if_true, if_false]; funext i; rcases i with _ | _ | _ | _ | i <;> simp [va_up, pqA]); rw [hq]), (gFr.refl.up hU3 hM_0 (by simp)), (by first | exact Nat.le_zero.mp hk9 | omega)⟩) dJ6_siftDownComparable_99 (Nat.le_of_ble_eq_true rfl) (Nat.le_of_ble_eq_true rfl)
  · exact absurd c_1 (by decide)
set_option maxHeartbeats 4000000 in
theorem met_PQ_poll_2 (l : Launch) (G : gG) (M : gM) (w : Nat) (wq : Nat) (t0 : Nat × Nat) (t1 : Nat × Nat) (mc : Int32) (a0 : Nat) (a1 : Nat) (d0 : frD) (d1 : frD)  (hM_0 : M w = some (t0, .inr (20, [.ref wq, .int (nI 2), .null, .int mc]))) (hM_1 : M wq = some (t1, .inl (gcs G 3, 4, .inr (.inr (.inr (.inr (pqA [(a0, d0), (a1, d1)]))))))) (hM_2 : M a0 = some ((0, 1), .inr (8, [.int d0.1, .int (bI d0.2.1), .int d0.2.2.1, .int d0.2.2.2.1, .int d0.2.2.2.2]))) (hM_3 : M a1 = some ((0, 1), .inr (8, [.int d1.1, .int (bI d1.2.1), .int d1.2.2.1, .int d1.2.2.2.1, .int d1.2.2.2.2]))) : Met l yJ6_poll (ws_ yJ6_poll cJ6_poll 6 (some (.object "java/lang/Object"))) ({ frames := 4, cells := 0, slots := 0, locals := 110 }) (gPc G [.ref w] M) (gQq G (fun r9 M9 k9 => r9 = (some a0) ∧ M9 w = some (t0, .inr (20, [.ref wq, .int (nI 1), .null, .int (mc + 1)])) ∧ M9 wq = some (t1, .inl (gcs G 3, 4, .inr (.inr (.inr (.inr (pqA (pqPoll [(a0, d0), (a1, d1)]))))))) ∧ gFr (gL [w, wq]) M M9 ∧ k9 = 0)) 0 0 (gA G) := by
  refine gMet [(0, .ref w)] (by decide) (Nat.le_of_ble_eq_true rfl) rfl ?_
  intro p e s m below meth c hC
  refine g_aload_n hC dJ6_poll_0 0 rfl gRef_r 1 rfl ?_
  refine g_get (v := .ref wq) hC cI20 hM_0 0 (Nat.le_of_ble_eq_true rfl) q291 rfl dJ6_poll_1 4 rfl ?_
  refine g_dup hC dJ6_poll_4 rfl 5 rfl ?_
  refine g_astore_n hC dJ6_poll_5 rfl gRef_r (Nat.le_of_ble_eq_true rfl) [(1, .ref wq), (0, .ref w)] rfl 6 rfl ?_
  refine g_iconst hC dJ6_poll_6 ki_0 7 rfl ?_
  refine g_aldq (r := some a0) hC hM_1 3 rfl (vp_in_nI (n := 0) (by first | decide | omega) (by first | decide | omega)) ((congrArg (pqA [(a0, d0), (a1, d1)]) (nI_clamp (n := 0) (by decide))).trans rfl) dJ6_poll_7 8 rfl ?_
  refine g_dup hC dJ6_poll_8 rfl 9 rfl ?_
  refine g_astore_n hC dJ6_poll_9 rfl gRef_r (Nat.le_of_ble_eq_true rfl) [(2, .ref a0), (1, .ref wq), (0, .ref w)] rfl 10 rfl ?_
  refine g_ifnull (r := some a0) hC dJ6_poll_10 79 rfl 13 rfl (fun q => by cases q) (fun _ _ => ?_)
  refine g_aload_n hC dJ6_poll_13 2 rfl gRef_r 14 rfl ?_
  refine g_dup hC dJ6_poll_14 rfl 15 rfl ?_
  refine g_get (v := .int mc) hC cI20 hM_0 3 (Nat.le_of_ble_eq_true rfl) q296 rfl dJ6_poll_15 18 rfl ?_
  refine g_iconst hC dJ6_poll_18 ki_1 19 rfl ?_
  refine g_iadd hC dJ6_poll_19 20 rfl ?_
  refine g_put hC cI20 hM_0 3 (Nat.le_of_ble_eq_true rfl) q296 rfl rfl rfl (Nat.le_of_ble_eq_true rfl) dJ6_poll_20 (fs' := [.ref wq, .int (nI 2), .null, .int (mc + 1)]) rfl 23 rfl (fun M2 hU3 => ?_)
  refine g_aload_n hC dJ6_poll_23 1 rfl gRef_r 24 rfl ?_
  refine g_aload_n hC dJ6_poll_24 2 rfl gRef_r 25 rfl ?_
  refine g_dup hC dJ6_poll_25 rfl 26 rfl ?_
  refine g_get (v := .int (nI 2)) hC cI20 hU3.1 1 (Nat.le_of_ble_eq_true rfl) q293 rfl dJ6_poll_26 29 rfl ?_
  refine g_iconst hC dJ6_poll_29 ki_1 30 rfl ?_
  refine g_isub hC dJ6_poll_30 31 rfl ?_
  refine g_topi (y := 1) (nI_s (a := 2) (b := 1) (c := 1) (by omega)) ?_
  refine g_dup_x1 hC dJ6_poll_31 rfl rfl 32 rfl ?_
  refine g_put hC cI20 hU3.1 1 (Nat.le_of_ble_eq_true rfl) q293 rfl rfl rfl (Nat.le_of_ble_eq_true rfl) dJ6_poll_32 (fs' := [.ref wq, .int 1, .null, .int (mc + 1)]) rfl 35 rfl (fun M4 hU5 => ?_)
  refine g_dup hC dJ6_poll_35 rfl 36 rfl ?_
  refine g_istore_n hC dJ6_poll_36 rfl (Nat.le_of_ble_eq_true rfl) [(3, .int 1), (2, .ref a0), (1, .ref wq), (0, .ref w)] rfl 37 rfl ?_
  refine g_aldq (r := some a1) hC (hU5.n (gne_ao (hU3.n (gne_ao hM_1 hM_0) hM_1) hU3.1) (hU3.n (gne_ao hM_1 hM_0) hM_1)) 3 rfl (vp_in_nI (n := 1) (by first | decide | omega) (by first | decide | omega)) ((congrArg (pqA [(a0, d0), (a1, d1)]) (nI_clamp (n := 1) (by decide))).trans rfl) dJ6_poll_37 38 rfl ?_
  refine g_astore hC dJ6_poll_38 gRef_r (Nat.le_of_ble_eq_true rfl) [(4, .ref a1), (3, .int 1), (2, .ref a0), (1, .ref wq), (0, .ref w)] rfl 40 rfl ?_
  refine g_aload_n hC dJ6_poll_40 3 rfl gRef_r 41 rfl ?_
  refine g_iload_n hC dJ6_poll_41 1 rfl 42 rfl ?_
  refine g_null hC dJ6_poll_42 43 rfl ?_
  refine g_astqN hC (hU5.n (gne_ao (hU3.n (gne_ao hM_1 hM_0) hM_1) hU3.1) (hU3.n (gne_ao hM_1 hM_0) hM_1)) 3 rfl (vp_in_nI (n := 1) (by first | decide | omega) (by first | decide | omega)) 1 (nI_clamp (n := 1) (by decide)) dJ6_poll_43 44 rfl (fun M6 hU7 => ?_)
  have hH8 := (hU7.n (gne_oa hU5.1 (hU5.n (gne_ao (hU3.n (gne_ao hM_1 hM_0) hM_1) hU3.1) (hU3.n (gne_ao hM_1 hM_0) hM_1))) hU5.1)
  have hH9 := (hU7.n (gne_oa (hU5.n (gne_c (hU3.n (gne_c hM_2 hM_0 (by decide)) hM_2) hU3.1 (by decide)) (hU3.n (gne_c hM_2 hM_0 (by decide)) hM_2)) (hU5.n (gne_ao (hU3.n (gne_ao hM_1 hM_0) hM_1) hU3.1) (hU3.n (gne_ao hM_1 hM_0) hM_1))) (hU5.n (gne_c (hU3.n (gne_c hM_2 hM_0 (by decide)) hM_2) hU3.1 (by decide)) (hU3.n (gne_c hM_2 hM_0 (by decide)) hM_2)))
  have hH10 := (hU7.n (gne_oa (hU5.n (gne_c (hU3.n (gne_c hM_3 hM_0 (by decide)) hM_3) hU3.1 (by decide)) (hU3.n (gne_c hM_3 hM_0 (by decide)) hM_3)) (hU5.n (gne_ao (hU3.n (gne_ao hM_1 hM_0) hM_1) hU3.1) (hU3.n (gne_ao hM_1 hM_0) hM_1))) (hU5.n (gne_c (hU3.n (gne_c hM_3 hM_0 (by decide)) hM_3) hU3.1 (by decide)) (hU3.n (gne_c hM_3 hM_0 (by decide)) hM_3)))
  refine g_iload_n hC dJ6_poll_44 1 rfl 45 rfl ?_
  refine g_if_le hC dJ6_poll_45 79 rfl 48 rfl (fun c_11 => ?_) (fun c_11 => ?_)
  · exact absurd c_11 (by decide)
  · refine g_aload_n hC dJ6_poll_48 4 rfl gRef_r 49 rfl ?_
    refine g_get (v := .null) hC cI20 hH8 2 (Nat.le_of_ble_eq_true rfl) q294 rfl dJ6_poll_49 52 rfl ?_
    refine g_dup hC dJ6_poll_52 rfl 53 rfl ?_
    refine g_astore hC dJ6_poll_53 gRef_n (Nat.le_of_ble_eq_true rfl) [(5, .null), (4, .ref a1), (3, .int 1), (2, .ref a0), (1, .ref wq), (0, .ref w)] rfl 55 rfl ?_
    refine g_ifnonnull (r := none) hC dJ6_poll_55 69 rfl 58 rfl (fun _ q => by cases q) (fun _ => ?_)
    refine g_iconst hC dJ6_poll_58 ki_0 59 rfl ?_
    refine g_aload hC dJ6_poll_59 1 rfl gRef_r 61 rfl ?_
    refine g_aload_n hC dJ6_poll_61 4 rfl gRef_r 62 rfl ?_
    refine g_iload_n hC dJ6_poll_62 2 rfl 63 rfl ?_
    refine g_callv (g_S (As := [.int 0, .ref a1, .ref wq, .int 1]) (rest := []) hC msJ6_siftDownComparable q2086 (met_PQ_down_2 l G M6 wq t1 a0 a1 d0 d1 hU7.1 hH10) ⟨rfl, rfl⟩ ⟨(Nat.le_of_ble_eq_true rfl), (Nat.le_of_ble_eq_true rfl)⟩ rfl (Nat.le_of_ble_eq_true rfl) dJ6_poll_63 rfl ⟨(Nat.le_of_ble_eq_true rfl), (Nat.le_of_ble_eq_true rfl)⟩) 0 (Nat.le_of_ble_eq_true rfl) 0 (Nat.le_of_ble_eq_true rfl) 66 rfl (fun M13 k14 hp15 => ?_)
    obtain ⟨hc17, hF18, hk19⟩ := hp15
    refine g_goto hC dJ6_poll_66 79 rfl ?_
    refine g_aload_n hC dJ6_poll_79 3 rfl gRef_r 80 rfl ?_
    exact g_aret (v := some a0) hC (by first | exact Or.inl ⟨_, rfl⟩ | exact Or.inr ⟨_, rfl⟩) (fun k9 hk9 => ⟨rfl, (by rw [(hF18 _ _ _ hH8 (gno (gne_oa hH8 hU7.1) gno0))]; all_goals (first | rfl | (simp only [eq_false c_11, eq_true (Int32.not_le.mp c_11), if_true, if_false, true_and, and_true, false_and, and_false, true_or, or_true, false_or, or_false, not_true_eq_false, not_false_eq_true, reduceIte, decide_true, decide_false, Bool.false_eq_true]; done) | (simp only [eq_false c_11, eq_true (Int32.not_le.mp c_11), if_true, if_false, true_and, and_true, false_and, and_false, true_or, or_true, false_or, or_false, not_true_eq_false, not_false_eq_true, reduceIte, decide_true, decide_false, Bool.false_eq_true]; rfl) | (simp only [c_11, Int32.not_le.mp c_11, if_true, if_false, true_and, and_true, false_and, and_false, true_or, or_true, false_or, or_false, not_true_eq_false, not_false_eq_true, reduceIte, decide_true, decide_false, Bool.false_eq_true]; done) | (simp only []; simp only [if_true, if_false, true_and, and_true, false_and, and_false, true_or, or_true, false_or, or_false, not_true_eq_false, not_false_eq_true, reduceIte, decide_true, decide_false, Bool.false_eq_true, eq_false c_11, eq_true (Int32.not_le.mp c_11)]; done) | (simp only []; simp only [if_true, if_false, true_and, and_true, false_and, and_false, true_or, or_true, false_or, or_false, not_true_eq_false, not_false_eq_true, reduceIte, decide_true, decide_false, Bool.false_eq_true, c_11, Int32.not_le.mp c_11]; done) | (simp only []; simp only [if_true, if_false, true_and, and_true, false_and, and_false, true_or, or_true, false_or, or_false, not_true_eq_false, not_false_eq_true, reduceIte, decide_true, decide_false, Bool.false_eq_true, c_11, Int32.not_le.mp c_11]; simp only []; done) | (simp only [c_11, Int32.not_le.mp c_11, if_true, if_false, true_and, and_true, false_and, and_false, true_or, or_true, false_or, or_false, not_true_eq_false, not_false_eq_true, reduceIte, decide_true, decide_false, Bool.false_eq_true]; rfl) | (simp only []; simp only [if_true, if_false, true_and, and_true, false_and, and_false, true_or, or_true, false_or, or_false, not_true_eq_false, not_false_eq_true, reduceIte, decide_true, decide_false, Bool.false_eq_true, c_11, Int32.not_le.mp c_11]; rfl) | (simp only []; rfl) | (simp only [c_11, Int32.not_le.mp c_11, if_true, if_false, true_and, and_true, false_and, and_false, true_or, or_true, false_or, or_false, not_true_eq_false, not_false_eq_true, reduceIte, decide_true, decide_false, Bool.false_eq_true]; rfl) | (simp_all []; done))), hc17, ((((gFr.refl.up hU3 hM_0 (by simp)).up hU5 hU3.1 (by simp)).up hU7 (hU5.n (gne_ao (hU3.n (gne_ao hM_1 hM_0) hM_1) hU3.1) (hU3.n (gne_ao hM_1 hM_0) hM_1)) (by simp)).trans (hF18.mono (by intro b t hb; simp at hb ⊢; first | done | (rcases hb with rfl | rfl | rfl | rfl <;> simp) | (simp [hb]; done)))), (by first | exact Nat.le_zero.mp hk9 | omega)⟩) dJ6_poll_80 (Nat.le_of_ble_eq_true rfl) (Nat.le_of_ble_eq_true rfl)
set_option maxHeartbeats 4000000 in
theorem met_PQ_down_3 (l : Launch) (G : gG) (M : gM) (wq : Nat) (t1 : Nat × Nat) (a0 : Nat) (a1 : Nat) (a2 : Nat) (d0 : frD) (d1 : frD) (d2 : frD)  (hM_0 : M wq = some (t1, .inl (gcs G 3, 4, .inr (.inr (.inr (.inr (va_up (pqA [(a0, d0), (a1, d1), (a2, d2)]) 2 none))))))) (hM_1 : M a1 = some ((0, 1), .inr (8, [.int d1.1, .int (bI d1.2.1), .int d1.2.2.1, .int d1.2.2.2.1, .int d1.2.2.2.2]))) (hM_2 : M a2 = some ((0, 1), .inr (8, [.int d2.1, .int (bI d2.2.1), .int d2.2.2.1, .int d2.2.2.2.1, .int d2.2.2.2.2]))) : Met l yJ6_siftDownComparable (ws_ yJ6_siftDownComparable cJ6_siftDownComparable 9 none) ({ frames := 3, cells := 0, slots := 0, locals := 80 }) (gPc G [.int 0, .ref a2, .ref wq, .int 2] M) (gQv G (fun M9 k9 => M9 wq = some (t1, .inl (gcs G 3, 4, .inr (.inr (.inr (.inr (pqA (pqPoll [(a0, d0), (a1, d1), (a2, d2)]))))))) ∧ gFr (gL [wq]) M M9 ∧ k9 = 0)) 0 0 (gA G) := by
  refine gMet [(0, .int 0), (1, .ref a2), (2, .ref wq), (3, .int 2)] (by decide) (Nat.le_of_ble_eq_true rfl) rfl ?_
  intro p e s m below meth c hC
  refine g_aload_n hC dJ6_siftDownComparable_0 1 rfl gRef_r 1 rfl ?_
  refine g_cast hC (gOf.of hC.K cI8 hM_2) q632 q1218 dJ6_siftDownComparable_1 4 rfl ?_
  refine g_astore hC dJ6_siftDownComparable_4 gRef_r (Nat.le_of_ble_eq_true rfl) [(4, .ref a2), (0, .int 0), (1, .ref a2), (2, .ref wq), (3, .int 2)] rfl 6 rfl ?_
  refine g_iload_n hC dJ6_siftDownComparable_6 4 rfl 7 rfl ?_
  refine g_iconst hC dJ6_siftDownComparable_7 ki_1 8 rfl ?_
  refine g_iushr (v := 1) hC dJ6_siftDownComparable_8 (by decide) 9 rfl ?_
  refine g_istore hC dJ6_siftDownComparable_9 (Nat.le_of_ble_eq_true rfl) [(5, .int 1), (4, .ref a2), (0, .int 0), (1, .ref a2), (2, .ref wq), (3, .int 2)] rfl 11 rfl ?_
  refine g_iload_n hC dJ6_siftDownComparable_11 2 rfl 12 rfl ?_
  refine g_iload hC dJ6_siftDownComparable_12 0 rfl 14 rfl ?_
  refine g_icmp_ge hC dJ6_siftDownComparable_14 94 rfl 17 rfl (fun c_1 => ?_) (fun c_1 => ?_)
  · exact absurd c_1 (by decide)
  · refine g_iload_n hC dJ6_siftDownComparable_17 2 rfl 18 rfl ?_
    refine g_iconst hC dJ6_siftDownComparable_18 ki_1 19 rfl ?_
    refine g_ishl hC dJ6_siftDownComparable_19 20 rfl ?_
    refine g_topi (y := 0) (by decide) ?_
    refine g_iconst hC dJ6_siftDownComparable_20 ki_1 21 rfl ?_
    refine g_iadd hC dJ6_siftDownComparable_21 22 rfl ?_
    refine g_topi (y := 1) (nI_a (a := 0) (b := 1) (c := 1) (by omega)) ?_
    refine g_istore hC dJ6_siftDownComparable_22 (Nat.le_of_ble_eq_true rfl) [(6, .int 1), (5, .int 1), (4, .ref a2), (0, .int 0), (1, .ref a2), (2, .ref wq), (3, .int 2)] rfl 24 rfl ?_
    refine g_aload_n hC dJ6_siftDownComparable_24 5 rfl gRef_r 25 rfl ?_
    refine g_iload hC dJ6_siftDownComparable_25 0 rfl 27 rfl ?_
    refine g_aldq (r := some a1) hC hM_0 3 rfl (vp_in_nI (n := 1) (by first | decide | omega) (by first | decide | omega)) ((congrArg (va_up (pqA [(a0, d0), (a1, d1), (a2, d2)]) 2 none) (nI_clamp (n := 1) (by decide))).trans rfl) dJ6_siftDownComparable_27 28 rfl ?_
    refine g_astore hC dJ6_siftDownComparable_28 gRef_r (Nat.le_of_ble_eq_true rfl) [(7, .ref a1), (6, .int 1), (5, .int 1), (4, .ref a2), (0, .int 0), (1, .ref a2), (2, .ref wq), (3, .int 2)] rfl 30 rfl ?_
    refine g_iload hC dJ6_siftDownComparable_30 1 rfl 32 rfl ?_
    refine g_iconst hC dJ6_siftDownComparable_32 ki_1 33 rfl ?_
    refine g_iadd hC dJ6_siftDownComparable_33 34 rfl ?_
    refine g_topi (y := 2) (nI_a (a := 1) (b := 1) (c := 2) (by omega)) ?_
    refine g_istore hC dJ6_siftDownComparable_34 (Nat.le_of_ble_eq_true rfl) [(8, .int 2), (7, .ref a1), (6, .int 1), (5, .int 1), (4, .ref a2), (0, .int 0), (1, .ref a2), (2, .ref wq), (3, .int 2)] rfl 36 rfl ?_
    refine g_iload hC dJ6_siftDownComparable_36 0 rfl 38 rfl ?_
    refine g_iload_n hC dJ6_siftDownComparable_38 8 rfl 39 rfl ?_
    refine g_icmp_ge hC dJ6_siftDownComparable_39 68 rfl 42 rfl (fun c_2 => ?_) (fun c_2 => ?_)
    · refine g_aload hC dJ6_siftDownComparable_68 4 rfl gRef_r 70 rfl ?_
      refine g_aload hC dJ6_siftDownComparable_70 1 rfl gRef_r 72 rfl ?_
      refine g_callFiP (g_F (n := 1) (As := [.ref a1]) (rest := []) hC ⟨by decide +kernel, q633, q635, q121, q637, by decide +kernel⟩ q1220 (gOf.of hC.K cI8 hM_2) (hC.at cI8) (met_Fr_cmp l G M a2 a1 d2 d1 hM_2 hM_1) ⟨rfl, rfl⟩ ⟨(Nat.le_of_ble_eq_true rfl), (Nat.le_of_ble_eq_true rfl)⟩ rfl (Nat.le_of_ble_eq_true rfl) dJ6_siftDownComparable_72 rfl ⟨(Nat.le_of_ble_eq_true rfl), (Nat.le_of_ble_eq_true rfl)⟩) 77 rfl 0 (Nat.le_of_ble_eq_true rfl) ?_
      refine g_if_gt hC dJ6_siftDownComparable_77 83 rfl 80 rfl (fun c_3 => ?_) (fun c_3 => ?_)
      · refine g_aload_n hC dJ6_siftDownComparable_83 7 rfl gRef_r 84 rfl ?_
        refine g_iload_n hC dJ6_siftDownComparable_84 5 rfl 85 rfl ?_
        refine g_aload hC dJ6_siftDownComparable_85 1 rfl gRef_r 87 rfl ?_
        refine g_astq hC hM_0 3 rfl (gOf.of hC.K cI8 hM_1) (Or.inr q3433) (vp_in_nI (n := 0) (by first | decide | omega) (by first | decide | omega)) 0 (nI_clamp (n := 0) (by decide)) dJ6_siftDownComparable_87 88 rfl (fun M4 hU5 => ?_)
        refine g_iload hC dJ6_siftDownComparable_88 2 rfl 90 rfl ?_
        refine g_istore_n hC dJ6_siftDownComparable_90 rfl (Nat.le_of_ble_eq_true rfl) [(0, .int 1), (8, .int 2), (7, .ref a1), (6, .int 1), (5, .int 1), (4, .ref a2), (1, .ref a2), (2, .ref wq), (3, .int 2)] rfl 91 rfl ?_
        refine g_goto hC dJ6_siftDownComparable_91 11 rfl ?_
        refine g_iload_n hC dJ6_siftDownComparable_11 0 rfl 12 rfl ?_
        refine g_iload hC dJ6_siftDownComparable_12 4 rfl 14 rfl ?_
        refine g_icmp_ge hC dJ6_siftDownComparable_14 94 rfl 17 rfl (fun c_6 => ?_) (fun c_6 => ?_)
        · refine g_aload_n hC dJ6_siftDownComparable_94 7 rfl gRef_r 95 rfl ?_
          refine g_iload_n hC dJ6_siftDownComparable_95 0 rfl 96 rfl ?_
          refine g_aload hC dJ6_siftDownComparable_96 5 rfl gRef_r 98 rfl ?_
          refine g_astq hC hU5.1 3 rfl (gOf.of hC.K cI8 (hU5.n (gne_oa hM_2 hM_0) hM_2)) (Or.inr q3433) (vp_in_nI (n := 1) (by first | decide | omega) (by first | decide | omega)) 1 (nI_clamp (n := 1) (by decide)) dJ6_siftDownComparable_98 99 rfl (fun M7 hU8 => ?_)
          exact g_vret hC (fun k9 hk9 => ⟨(by rw [hU8.1]; have hq : va_up (va_up (va_up (pqA [(a0, d0), (a1, d1), (a2, d2)]) 2 none) 0 (some a1)) 1 (some a2) = pqA (pqPoll [(a0, d0), (a1, d1), (a2, d2)]) := (by simp only [pqPoll, eq_true c_3, eq_false (Int32.not_le.mpr c_3), if_true, if_false]; funext i; rcases i with _ | _ | _ | _ | i <;> simp [va_up, pqA]); rw [hq]), ((gFr.refl.up hU5 hM_0 (by simp)).up hU8 hU5.1 (by simp)), (by first | exact Nat.le_zero.mp hk9 | omega)⟩) dJ6_siftDownComparable_99 (Nat.le_of_ble_eq_true rfl) (Nat.le_of_ble_eq_true rfl)
        · exact absurd c_6 (by decide)
      · refine g_goto hC dJ6_siftDownComparable_80 94 rfl ?_
        refine g_aload_n hC dJ6_siftDownComparable_94 7 rfl gRef_r 95 rfl ?_
        refine g_iload_n hC dJ6_siftDownComparable_95 5 rfl 96 rfl ?_
        refine g_aload hC dJ6_siftDownComparable_96 4 rfl gRef_r 98 rfl ?_
        refine g_astq hC hM_0 3 rfl (gOf.of hC.K cI8 hM_2) (Or.inr q3433) (vp_in_nI (n := 0) (by first | decide | omega) (by first | decide | omega)) 0 (nI_clamp (n := 0) (by decide)) dJ6_siftDownComparable_98 99 rfl (fun M9 hU10 => ?_)
        exact g_vret hC (fun k9 hk9 => ⟨(by rw [hU10.1]; have hq : va_up (va_up (pqA [(a0, d0), (a1, d1), (a2, d2)]) 2 none) 0 (some a2) = pqA (pqPoll [(a0, d0), (a1, d1), (a2, d2)]) := (by simp only [pqPoll, eq_false c_3, eq_true (Int32.not_lt.mp c_3), if_true, if_false]; funext i; rcases i with _ | _ | _ | _ | i <;> simp [va_up, pqA]); rw [hq]), (gFr.refl.up hU10 hM_0 (by simp)), (by first | exact Nat.le_zero.mp hk9 | omega)⟩) dJ6_siftDownComparable_99 (Nat.le_of_ble_eq_true rfl) (Nat.le_of_ble_eq_true rfl)
    · exact absurd c_2 (by decide)
set_option maxHeartbeats 4000000 in
theorem met_PQ_poll_3 (l : Launch) (G : gG) (M : gM) (w : Nat) (wq : Nat) (t0 : Nat × Nat) (t1 : Nat × Nat) (mc : Int32) (a0 : Nat) (a1 : Nat) (a2 : Nat) (d0 : frD) (d1 : frD) (d2 : frD)  (hM_0 : M w = some (t0, .inr (20, [.ref wq, .int (nI 3), .null, .int mc]))) (hM_1 : M wq = some (t1, .inl (gcs G 3, 4, .inr (.inr (.inr (.inr (pqA [(a0, d0), (a1, d1), (a2, d2)]))))))) (hM_2 : M a0 = some ((0, 1), .inr (8, [.int d0.1, .int (bI d0.2.1), .int d0.2.2.1, .int d0.2.2.2.1, .int d0.2.2.2.2]))) (hM_3 : M a1 = some ((0, 1), .inr (8, [.int d1.1, .int (bI d1.2.1), .int d1.2.2.1, .int d1.2.2.2.1, .int d1.2.2.2.2]))) (hM_4 : M a2 = some ((0, 1), .inr (8, [.int d2.1, .int (bI d2.2.1), .int d2.2.2.1, .int d2.2.2.2.1, .int d2.2.2.2.2]))) : Met l yJ6_poll (ws_ yJ6_poll cJ6_poll 6 (some (.object "java/lang/Object"))) ({ frames := 4, cells := 0, slots := 0, locals := 110 }) (gPc G [.ref w] M) (gQq G (fun r9 M9 k9 => r9 = (some a0) ∧ M9 w = some (t0, .inr (20, [.ref wq, .int (nI 2), .null, .int (mc + 1)])) ∧ M9 wq = some (t1, .inl (gcs G 3, 4, .inr (.inr (.inr (.inr (pqA (pqPoll [(a0, d0), (a1, d1), (a2, d2)]))))))) ∧ gFr (gL [w, wq]) M M9 ∧ k9 = 0)) 0 0 (gA G) := by
  refine gMet [(0, .ref w)] (by decide) (Nat.le_of_ble_eq_true rfl) rfl ?_
  intro p e s m below meth c hC
  refine g_aload_n hC dJ6_poll_0 0 rfl gRef_r 1 rfl ?_
  refine g_get (v := .ref wq) hC cI20 hM_0 0 (Nat.le_of_ble_eq_true rfl) q291 rfl dJ6_poll_1 4 rfl ?_
  refine g_dup hC dJ6_poll_4 rfl 5 rfl ?_
  refine g_astore_n hC dJ6_poll_5 rfl gRef_r (Nat.le_of_ble_eq_true rfl) [(1, .ref wq), (0, .ref w)] rfl 6 rfl ?_
  refine g_iconst hC dJ6_poll_6 ki_0 7 rfl ?_
  refine g_aldq (r := some a0) hC hM_1 3 rfl (vp_in_nI (n := 0) (by first | decide | omega) (by first | decide | omega)) ((congrArg (pqA [(a0, d0), (a1, d1), (a2, d2)]) (nI_clamp (n := 0) (by decide))).trans rfl) dJ6_poll_7 8 rfl ?_
  refine g_dup hC dJ6_poll_8 rfl 9 rfl ?_
  refine g_astore_n hC dJ6_poll_9 rfl gRef_r (Nat.le_of_ble_eq_true rfl) [(2, .ref a0), (1, .ref wq), (0, .ref w)] rfl 10 rfl ?_
  refine g_ifnull (r := some a0) hC dJ6_poll_10 79 rfl 13 rfl (fun q => by cases q) (fun _ _ => ?_)
  refine g_aload_n hC dJ6_poll_13 2 rfl gRef_r 14 rfl ?_
  refine g_dup hC dJ6_poll_14 rfl 15 rfl ?_
  refine g_get (v := .int mc) hC cI20 hM_0 3 (Nat.le_of_ble_eq_true rfl) q296 rfl dJ6_poll_15 18 rfl ?_
  refine g_iconst hC dJ6_poll_18 ki_1 19 rfl ?_
  refine g_iadd hC dJ6_poll_19 20 rfl ?_
  refine g_put hC cI20 hM_0 3 (Nat.le_of_ble_eq_true rfl) q296 rfl rfl rfl (Nat.le_of_ble_eq_true rfl) dJ6_poll_20 (fs' := [.ref wq, .int (nI 3), .null, .int (mc + 1)]) rfl 23 rfl (fun M2 hU3 => ?_)
  refine g_aload_n hC dJ6_poll_23 1 rfl gRef_r 24 rfl ?_
  refine g_aload_n hC dJ6_poll_24 2 rfl gRef_r 25 rfl ?_
  refine g_dup hC dJ6_poll_25 rfl 26 rfl ?_
  refine g_get (v := .int (nI 3)) hC cI20 hU3.1 1 (Nat.le_of_ble_eq_true rfl) q293 rfl dJ6_poll_26 29 rfl ?_
  refine g_iconst hC dJ6_poll_29 ki_1 30 rfl ?_
  refine g_isub hC dJ6_poll_30 31 rfl ?_
  refine g_topi (y := 2) (nI_s (a := 3) (b := 1) (c := 2) (by omega)) ?_
  refine g_dup_x1 hC dJ6_poll_31 rfl rfl 32 rfl ?_
  refine g_put hC cI20 hU3.1 1 (Nat.le_of_ble_eq_true rfl) q293 rfl rfl rfl (Nat.le_of_ble_eq_true rfl) dJ6_poll_32 (fs' := [.ref wq, .int 2, .null, .int (mc + 1)]) rfl 35 rfl (fun M4 hU5 => ?_)
  refine g_dup hC dJ6_poll_35 rfl 36 rfl ?_
  refine g_istore_n hC dJ6_poll_36 rfl (Nat.le_of_ble_eq_true rfl) [(3, .int 2), (2, .ref a0), (1, .ref wq), (0, .ref w)] rfl 37 rfl ?_
  refine g_aldq (r := some a2) hC (hU5.n (gne_ao (hU3.n (gne_ao hM_1 hM_0) hM_1) hU3.1) (hU3.n (gne_ao hM_1 hM_0) hM_1)) 3 rfl (vp_in_nI (n := 2) (by first | decide | omega) (by first | decide | omega)) ((congrArg (pqA [(a0, d0), (a1, d1), (a2, d2)]) (nI_clamp (n := 2) (by decide))).trans rfl) dJ6_poll_37 38 rfl ?_
  refine g_astore hC dJ6_poll_38 gRef_r (Nat.le_of_ble_eq_true rfl) [(4, .ref a2), (3, .int 2), (2, .ref a0), (1, .ref wq), (0, .ref w)] rfl 40 rfl ?_
  refine g_aload_n hC dJ6_poll_40 3 rfl gRef_r 41 rfl ?_
  refine g_iload_n hC dJ6_poll_41 1 rfl 42 rfl ?_
  refine g_null hC dJ6_poll_42 43 rfl ?_
  refine g_astqN hC (hU5.n (gne_ao (hU3.n (gne_ao hM_1 hM_0) hM_1) hU3.1) (hU3.n (gne_ao hM_1 hM_0) hM_1)) 3 rfl (vp_in_nI (n := 2) (by first | decide | omega) (by first | decide | omega)) 2 (nI_clamp (n := 2) (by decide)) dJ6_poll_43 44 rfl (fun M6 hU7 => ?_)
  have hH8 := (hU7.n (gne_oa hU5.1 (hU5.n (gne_ao (hU3.n (gne_ao hM_1 hM_0) hM_1) hU3.1) (hU3.n (gne_ao hM_1 hM_0) hM_1))) hU5.1)
  have hH9 := (hU7.n (gne_oa (hU5.n (gne_c (hU3.n (gne_c hM_2 hM_0 (by decide)) hM_2) hU3.1 (by decide)) (hU3.n (gne_c hM_2 hM_0 (by decide)) hM_2)) (hU5.n (gne_ao (hU3.n (gne_ao hM_1 hM_0) hM_1) hU3.1) (hU3.n (gne_ao hM_1 hM_0) hM_1))) (hU5.n (gne_c (hU3.n (gne_c hM_2 hM_0 (by decide)) hM_2) hU3.1 (by decide)) (hU3.n (gne_c hM_2 hM_0 (by decide)) hM_2)))
  have hH10 := (hU7.n (gne_oa (hU5.n (gne_c (hU3.n (gne_c hM_3 hM_0 (by decide)) hM_3) hU3.1 (by decide)) (hU3.n (gne_c hM_3 hM_0 (by decide)) hM_3)) (hU5.n (gne_ao (hU3.n (gne_ao hM_1 hM_0) hM_1) hU3.1) (hU3.n (gne_ao hM_1 hM_0) hM_1))) (hU5.n (gne_c (hU3.n (gne_c hM_3 hM_0 (by decide)) hM_3) hU3.1 (by decide)) (hU3.n (gne_c hM_3 hM_0 (by decide)) hM_3)))
  have hH11 := (hU7.n (gne_oa (hU5.n (gne_c (hU3.n (gne_c hM_4 hM_0 (by decide)) hM_4) hU3.1 (by decide)) (hU3.n (gne_c hM_4 hM_0 (by decide)) hM_4)) (hU5.n (gne_ao (hU3.n (gne_ao hM_1 hM_0) hM_1) hU3.1) (hU3.n (gne_ao hM_1 hM_0) hM_1))) (hU5.n (gne_c (hU3.n (gne_c hM_4 hM_0 (by decide)) hM_4) hU3.1 (by decide)) (hU3.n (gne_c hM_4 hM_0 (by decide)) hM_4)))
  refine g_iload_n hC dJ6_poll_44 1 rfl 45 rfl ?_
  refine g_if_le hC dJ6_poll_45 79 rfl 48 rfl (fun c_12 => ?_) (fun c_12 => ?_)
  · exact absurd c_12 (by decide)
  · refine g_aload_n hC dJ6_poll_48 4 rfl gRef_r 49 rfl ?_
    refine g_get (v := .null) hC cI20 hH8 2 (Nat.le_of_ble_eq_true rfl) q294 rfl dJ6_poll_49 52 rfl ?_
    refine g_dup hC dJ6_poll_52 rfl 53 rfl ?_
    refine g_astore hC dJ6_poll_53 gRef_n (Nat.le_of_ble_eq_true rfl) [(5, .null), (4, .ref a2), (3, .int 2), (2, .ref a0), (1, .ref wq), (0, .ref w)] rfl 55 rfl ?_
    refine g_ifnonnull (r := none) hC dJ6_poll_55 69 rfl 58 rfl (fun _ q => by cases q) (fun _ => ?_)
    refine g_iconst hC dJ6_poll_58 ki_0 59 rfl ?_
    refine g_aload hC dJ6_poll_59 1 rfl gRef_r 61 rfl ?_
    refine g_aload_n hC dJ6_poll_61 4 rfl gRef_r 62 rfl ?_
    refine g_iload_n hC dJ6_poll_62 2 rfl 63 rfl ?_
    refine g_callv (g_S (As := [.int 0, .ref a2, .ref wq, .int 2]) (rest := []) hC msJ6_siftDownComparable q2086 (met_PQ_down_3 l G M6 wq t1 a0 a1 a2 d0 d1 d2 hU7.1 hH10 hH11) ⟨rfl, rfl⟩ ⟨(Nat.le_of_ble_eq_true rfl), (Nat.le_of_ble_eq_true rfl)⟩ rfl (Nat.le_of_ble_eq_true rfl) dJ6_poll_63 rfl ⟨(Nat.le_of_ble_eq_true rfl), (Nat.le_of_ble_eq_true rfl)⟩) 0 (Nat.le_of_ble_eq_true rfl) 0 (Nat.le_of_ble_eq_true rfl) 66 rfl (fun M14 k15 hp16 => ?_)
    obtain ⟨hc18, hF19, hk20⟩ := hp16
    refine g_goto hC dJ6_poll_66 79 rfl ?_
    refine g_aload_n hC dJ6_poll_79 3 rfl gRef_r 80 rfl ?_
    exact g_aret (v := some a0) hC (by first | exact Or.inl ⟨_, rfl⟩ | exact Or.inr ⟨_, rfl⟩) (fun k9 hk9 => ⟨rfl, (by rw [(hF19 _ _ _ hH8 (gno (gne_oa hH8 hU7.1) gno0))]; all_goals (first | rfl | (simp only [eq_false c_12, eq_true (Int32.not_le.mp c_12), if_true, if_false, true_and, and_true, false_and, and_false, true_or, or_true, false_or, or_false, not_true_eq_false, not_false_eq_true, reduceIte, decide_true, decide_false, Bool.false_eq_true]; done) | (simp only [eq_false c_12, eq_true (Int32.not_le.mp c_12), if_true, if_false, true_and, and_true, false_and, and_false, true_or, or_true, false_or, or_false, not_true_eq_false, not_false_eq_true, reduceIte, decide_true, decide_false, Bool.false_eq_true]; rfl) | (simp only [c_12, Int32.not_le.mp c_12, if_true, if_false, true_and, and_true, false_and, and_false, true_or, or_true, false_or, or_false, not_true_eq_false, not_false_eq_true, reduceIte, decide_true, decide_false, Bool.false_eq_true]; done) | (simp only []; simp only [if_true, if_false, true_and, and_true, false_and, and_false, true_or, or_true, false_or, or_false, not_true_eq_false, not_false_eq_true, reduceIte, decide_true, decide_false, Bool.false_eq_true, eq_false c_12, eq_true (Int32.not_le.mp c_12)]; done) | (simp only []; simp only [if_true, if_false, true_and, and_true, false_and, and_false, true_or, or_true, false_or, or_false, not_true_eq_false, not_false_eq_true, reduceIte, decide_true, decide_false, Bool.false_eq_true, c_12, Int32.not_le.mp c_12]; done) | (simp only []; simp only [if_true, if_false, true_and, and_true, false_and, and_false, true_or, or_true, false_or, or_false, not_true_eq_false, not_false_eq_true, reduceIte, decide_true, decide_false, Bool.false_eq_true, c_12, Int32.not_le.mp c_12]; simp only []; done) | (simp only [c_12, Int32.not_le.mp c_12, if_true, if_false, true_and, and_true, false_and, and_false, true_or, or_true, false_or, or_false, not_true_eq_false, not_false_eq_true, reduceIte, decide_true, decide_false, Bool.false_eq_true]; rfl) | (simp only []; simp only [if_true, if_false, true_and, and_true, false_and, and_false, true_or, or_true, false_or, or_false, not_true_eq_false, not_false_eq_true, reduceIte, decide_true, decide_false, Bool.false_eq_true, c_12, Int32.not_le.mp c_12]; rfl) | (simp only []; rfl) | (simp only [c_12, Int32.not_le.mp c_12, if_true, if_false, true_and, and_true, false_and, and_false, true_or, or_true, false_or, or_false, not_true_eq_false, not_false_eq_true, reduceIte, decide_true, decide_false, Bool.false_eq_true]; rfl) | (simp_all []; done))), hc18, ((((gFr.refl.up hU3 hM_0 (by simp)).up hU5 hU3.1 (by simp)).up hU7 (hU5.n (gne_ao (hU3.n (gne_ao hM_1 hM_0) hM_1) hU3.1) (hU3.n (gne_ao hM_1 hM_0) hM_1)) (by simp)).trans (hF19.mono (by intro b t hb; simp at hb ⊢; first | done | (rcases hb with rfl | rfl | rfl | rfl <;> simp) | (simp [hb]; done)))), (by first | exact Nat.le_zero.mp hk9 | omega)⟩) dJ6_poll_80 (Nat.le_of_ble_eq_true rfl) (Nat.le_of_ble_eq_true rfl)
set_option maxHeartbeats 4000000 in
theorem met_PQ_down_4 (l : Launch) (G : gG) (M : gM) (wq : Nat) (t1 : Nat × Nat) (a0 : Nat) (a1 : Nat) (a2 : Nat) (a3 : Nat) (d0 : frD) (d1 : frD) (d2 : frD) (d3 : frD)  (hM_0 : M wq = some (t1, .inl (gcs G 3, 4, .inr (.inr (.inr (.inr (va_up (pqA [(a0, d0), (a1, d1), (a2, d2), (a3, d3)]) 3 none))))))) (hM_1 : M a1 = some ((0, 1), .inr (8, [.int d1.1, .int (bI d1.2.1), .int d1.2.2.1, .int d1.2.2.2.1, .int d1.2.2.2.2]))) (hM_2 : M a2 = some ((0, 1), .inr (8, [.int d2.1, .int (bI d2.2.1), .int d2.2.2.1, .int d2.2.2.2.1, .int d2.2.2.2.2]))) (hM_3 : M a3 = some ((0, 1), .inr (8, [.int d3.1, .int (bI d3.2.1), .int d3.2.2.1, .int d3.2.2.2.1, .int d3.2.2.2.2]))) : Met l yJ6_siftDownComparable (ws_ yJ6_siftDownComparable cJ6_siftDownComparable 9 none) ({ frames := 3, cells := 0, slots := 0, locals := 80 }) (gPc G [.int 0, .ref a3, .ref wq, .int 3] M) (gQv G (fun M9 k9 => M9 wq = some (t1, .inl (gcs G 3, 4, .inr (.inr (.inr (.inr (pqA (pqPoll [(a0, d0), (a1, d1), (a2, d2), (a3, d3)]))))))) ∧ gFr (gL [wq]) M M9 ∧ k9 = 0)) 0 0 (gA G) := by
  refine gMet [(0, .int 0), (1, .ref a3), (2, .ref wq), (3, .int 3)] (by decide) (Nat.le_of_ble_eq_true rfl) rfl ?_
  intro p e s m below meth c hC
  refine g_aload_n hC dJ6_siftDownComparable_0 1 rfl gRef_r 1 rfl ?_
  refine g_cast hC (gOf.of hC.K cI8 hM_3) q632 q1218 dJ6_siftDownComparable_1 4 rfl ?_
  refine g_astore hC dJ6_siftDownComparable_4 gRef_r (Nat.le_of_ble_eq_true rfl) [(4, .ref a3), (0, .int 0), (1, .ref a3), (2, .ref wq), (3, .int 3)] rfl 6 rfl ?_
  refine g_iload_n hC dJ6_siftDownComparable_6 4 rfl 7 rfl ?_
  refine g_iconst hC dJ6_siftDownComparable_7 ki_1 8 rfl ?_
  refine g_iushr (v := 1) hC dJ6_siftDownComparable_8 (by decide) 9 rfl ?_
  refine g_istore hC dJ6_siftDownComparable_9 (Nat.le_of_ble_eq_true rfl) [(5, .int 1), (4, .ref a3), (0, .int 0), (1, .ref a3), (2, .ref wq), (3, .int 3)] rfl 11 rfl ?_
  refine g_iload_n hC dJ6_siftDownComparable_11 2 rfl 12 rfl ?_
  refine g_iload hC dJ6_siftDownComparable_12 0 rfl 14 rfl ?_
  refine g_icmp_ge hC dJ6_siftDownComparable_14 94 rfl 17 rfl (fun c_1 => ?_) (fun c_1 => ?_)
  · exact absurd c_1 (by decide)
  · refine g_iload_n hC dJ6_siftDownComparable_17 2 rfl 18 rfl ?_
    refine g_iconst hC dJ6_siftDownComparable_18 ki_1 19 rfl ?_
    refine g_ishl hC dJ6_siftDownComparable_19 20 rfl ?_
    refine g_topi (y := 0) (by decide) ?_
    refine g_iconst hC dJ6_siftDownComparable_20 ki_1 21 rfl ?_
    refine g_iadd hC dJ6_siftDownComparable_21 22 rfl ?_
    refine g_topi (y := 1) (nI_a (a := 0) (b := 1) (c := 1) (by omega)) ?_
    refine g_istore hC dJ6_siftDownComparable_22 (Nat.le_of_ble_eq_true rfl) [(6, .int 1), (5, .int 1), (4, .ref a3), (0, .int 0), (1, .ref a3), (2, .ref wq), (3, .int 3)] rfl 24 rfl ?_
    refine g_aload_n hC dJ6_siftDownComparable_24 5 rfl gRef_r 25 rfl ?_
    refine g_iload hC dJ6_siftDownComparable_25 0 rfl 27 rfl ?_
    refine g_aldq (r := some a1) hC hM_0 3 rfl (vp_in_nI (n := 1) (by first | decide | omega) (by first | decide | omega)) ((congrArg (va_up (pqA [(a0, d0), (a1, d1), (a2, d2), (a3, d3)]) 3 none) (nI_clamp (n := 1) (by decide))).trans rfl) dJ6_siftDownComparable_27 28 rfl ?_
    refine g_astore hC dJ6_siftDownComparable_28 gRef_r (Nat.le_of_ble_eq_true rfl) [(7, .ref a1), (6, .int 1), (5, .int 1), (4, .ref a3), (0, .int 0), (1, .ref a3), (2, .ref wq), (3, .int 3)] rfl 30 rfl ?_
    refine g_iload hC dJ6_siftDownComparable_30 1 rfl 32 rfl ?_
    refine g_iconst hC dJ6_siftDownComparable_32 ki_1 33 rfl ?_
    refine g_iadd hC dJ6_siftDownComparable_33 34 rfl ?_
    refine g_topi (y := 2) (nI_a (a := 1) (b := 1) (c := 2) (by omega)) ?_
    refine g_istore hC dJ6_siftDownComparable_34 (Nat.le_of_ble_eq_true rfl) [(8, .int 2), (7, .ref a1), (6, .int 1), (5, .int 1), (4, .ref a3), (0, .int 0), (1, .ref a3), (2, .ref wq), (3, .int 3)] rfl 36 rfl ?_
    refine g_iload hC dJ6_siftDownComparable_36 0 rfl 38 rfl ?_
    refine g_iload_n hC dJ6_siftDownComparable_38 8 rfl 39 rfl ?_
    refine g_icmp_ge hC dJ6_siftDownComparable_39 68 rfl 42 rfl (fun c_2 => ?_) (fun c_2 => ?_)
    · exact absurd c_2 (by decide)
    · refine g_aload hC dJ6_siftDownComparable_42 1 rfl gRef_r 44 rfl ?_
      refine g_cast hC (gOf.of hC.K cI8 hM_1) q632 q1218 dJ6_siftDownComparable_44 47 rfl ?_
      refine g_aload_n hC dJ6_siftDownComparable_47 7 rfl gRef_r 48 rfl ?_
      refine g_iload hC dJ6_siftDownComparable_48 0 rfl 50 rfl ?_
      refine g_aldq (r := some a2) hC hM_0 3 rfl (vp_in_nI (n := 2) (by first | decide | omega) (by first | decide | omega)) ((congrArg (va_up (pqA [(a0, d0), (a1, d1), (a2, d2), (a3, d3)]) 3 none) (nI_clamp (n := 2) (by decide))).trans rfl) dJ6_siftDownComparable_50 51 rfl ?_
      refine g_callFiP (g_F (n := 1) (As := [.ref a2]) (rest := []) hC ⟨by decide +kernel, q633, q635, q121, q637, by decide +kernel⟩ q1220 (gOf.of hC.K cI8 hM_1) (hC.at cI8) (met_Fr_cmp l G M a1 a2 d1 d2 hM_1 hM_2) ⟨rfl, rfl⟩ ⟨(Nat.le_of_ble_eq_true rfl), (Nat.le_of_ble_eq_true rfl)⟩ rfl (Nat.le_of_ble_eq_true rfl) dJ6_siftDownComparable_51 rfl ⟨(Nat.le_of_ble_eq_true rfl), (Nat.le_of_ble_eq_true rfl)⟩) 56 rfl 0 (Nat.le_of_ble_eq_true rfl) ?_
      refine g_if_le hC dJ6_siftDownComparable_56 68 rfl 59 rfl (fun c_3 => ?_) (fun c_3 => ?_)
      · refine g_aload hC dJ6_siftDownComparable_68 4 rfl gRef_r 70 rfl ?_
        refine g_aload hC dJ6_siftDownComparable_70 1 rfl gRef_r 72 rfl ?_
        refine g_callFiP (g_F (n := 1) (As := [.ref a1]) (rest := []) hC ⟨by decide +kernel, q633, q635, q121, q637, by decide +kernel⟩ q1220 (gOf.of hC.K cI8 hM_3) (hC.at cI8) (met_Fr_cmp l G M a3 a1 d3 d1 hM_3 hM_1) ⟨rfl, rfl⟩ ⟨(Nat.le_of_ble_eq_true rfl), (Nat.le_of_ble_eq_true rfl)⟩ rfl (Nat.le_of_ble_eq_true rfl) dJ6_siftDownComparable_72 rfl ⟨(Nat.le_of_ble_eq_true rfl), (Nat.le_of_ble_eq_true rfl)⟩) 77 rfl 0 (Nat.le_of_ble_eq_true rfl) ?_
        refine g_if_gt hC dJ6_siftDownComparable_77 83 rfl 80 rfl (fun c_4 => ?_) (fun c_4 => ?_)
        · refine g_aload_n hC dJ6_siftDownComparable_83 7 rfl gRef_r 84 rfl ?_
          refine g_iload_n hC dJ6_siftDownComparable_84 5 rfl 85 rfl ?_
          refine g_aload hC dJ6_siftDownComparable_85 1 rfl gRef_r 87 rfl ?_
          refine g_astq hC hM_0 3 rfl (gOf.of hC.K cI8 hM_1) (Or.inr q3433) (vp_in_nI (n := 0) (by first | decide | omega) (by first | decide | omega)) 0 (nI_clamp (n := 0) (by decide)) dJ6_siftDownComparable_87 88 rfl (fun M5 hU6 => ?_)
          refine g_iload hC dJ6_siftDownComparable_88 2 rfl 90 rfl ?_
          refine g_istore_n hC dJ6_siftDownComparable_90 rfl (Nat.le_of_ble_eq_true rfl) [(0, .int 1), (8, .int 2), (7, .ref a1), (6, .int 1), (5, .int 1), (4, .ref a3), (1, .ref a3), (2, .ref wq), (3, .int 3)] rfl 91 rfl ?_
          refine g_goto hC dJ6_siftDownComparable_91 11 rfl ?_
          refine g_iload_n hC dJ6_siftDownComparable_11 0 rfl 12 rfl ?_
          refine g_iload hC dJ6_siftDownComparable_12 4 rfl 14 rfl ?_
          refine g_icmp_ge hC dJ6_siftDownComparable_14 94 rfl 17 rfl (fun c_7 => ?_) (fun c_7 => ?_)
          · refine g_aload_n hC dJ6_siftDownComparable_94 7 rfl gRef_r 95 rfl ?_
            refine g_iload_n hC dJ6_siftDownComparable_95 0 rfl 96 rfl ?_
            refine g_aload hC dJ6_siftDownComparable_96 5 rfl gRef_r 98 rfl ?_
            refine g_astq hC hU6.1 3 rfl (gOf.of hC.K cI8 (hU6.n (gne_oa hM_3 hM_0) hM_3)) (Or.inr q3433) (vp_in_nI (n := 1) (by first | decide | omega) (by first | decide | omega)) 1 (nI_clamp (n := 1) (by decide)) dJ6_siftDownComparable_98 99 rfl (fun M8 hU9 => ?_)
            exact g_vret hC (fun k9 hk9 => ⟨(by rw [hU9.1]; have hq : va_up (va_up (va_up (pqA [(a0, d0), (a1, d1), (a2, d2), (a3, d3)]) 3 none) 0 (some a1)) 1 (some a3) = pqA (pqPoll [(a0, d0), (a1, d1), (a2, d2), (a3, d3)]) := (by simp only [pqPoll, eq_true c_3, eq_false (Int32.not_lt.mpr c_3), eq_true c_4, eq_false (Int32.not_le.mpr c_4), if_true, if_false]; funext i; rcases i with _ | _ | _ | _ | i <;> simp [va_up, pqA]); rw [hq]), ((gFr.refl.up hU6 hM_0 (by simp)).up hU9 hU6.1 (by simp)), (by first | exact Nat.le_zero.mp hk9 | omega)⟩) dJ6_siftDownComparable_99 (Nat.le_of_ble_eq_true rfl) (Nat.le_of_ble_eq_true rfl)
          · exact absurd c_7 (by decide)
        · refine g_goto hC dJ6_siftDownComparable_80 94 rfl ?_
          refine g_aload_n hC dJ6_siftDownComparable_94 7 rfl gRef_r 95 rfl ?_
          refine g_iload_n hC dJ6_siftDownComparable_95 5 rfl 96 rfl ?_
          refine g_aload hC dJ6_siftDownComparable_96 4 rfl gRef_r 98 rfl ?_
          refine g_astq hC hM_0 3 rfl (gOf.of hC.K cI8 hM_3) (Or.inr q3433) (vp_in_nI (n := 0) (by first | decide | omega) (by first | decide | omega)) 0 (nI_clamp (n := 0) (by decide)) dJ6_siftDownComparable_98 99 rfl (fun M10 hU11 => ?_)
          exact g_vret hC (fun k9 hk9 => ⟨(by rw [hU11.1]; have hq : va_up (va_up (pqA [(a0, d0), (a1, d1), (a2, d2), (a3, d3)]) 3 none) 0 (some a3) = pqA (pqPoll [(a0, d0), (a1, d1), (a2, d2), (a3, d3)]) := (by simp only [pqPoll, eq_true c_3, eq_false (Int32.not_lt.mpr c_3), eq_false c_4, eq_true (Int32.not_lt.mp c_4), if_true, if_false]; funext i; rcases i with _ | _ | _ | _ | i <;> simp [va_up, pqA]); rw [hq]), (gFr.refl.up hU11 hM_0 (by simp)), (by first | exact Nat.le_zero.mp hk9 | omega)⟩) dJ6_siftDownComparable_99 (Nat.le_of_ble_eq_true rfl) (Nat.le_of_ble_eq_true rfl)
      · refine g_aload_n hC dJ6_siftDownComparable_59 7 rfl gRef_r 60 rfl ?_
        refine g_iload hC dJ6_siftDownComparable_60 0 rfl 62 rfl ?_
        refine g_dup hC dJ6_siftDownComparable_62 rfl 63 rfl ?_
        refine g_istore hC dJ6_siftDownComparable_63 (Nat.le_of_ble_eq_true rfl) [(6, .int 2), (8, .int 2), (7, .ref a1), (5, .int 1), (4, .ref a3), (0, .int 0), (1, .ref a3), (2, .ref wq), (3, .int 3)] rfl 65 rfl ?_
        refine g_aldq (r := some a2) hC hM_0 3 rfl (vp_in_nI (n := 2) (by first | decide | omega) (by first | decide | omega)) ((congrArg (va_up (pqA [(a0, d0), (a1, d1), (a2, d2), (a3, d3)]) 3 none) (nI_clamp (n := 2) (by decide))).trans rfl) dJ6_siftDownComparable_65 66 rfl ?_
        refine g_astore hC dJ6_siftDownComparable_66 gRef_r (Nat.le_of_ble_eq_true rfl) [(7, .ref a2), (6, .int 2), (8, .int 2), (5, .int 1), (4, .ref a3), (0, .int 0), (1, .ref a3), (2, .ref wq), (3, .int 3)] rfl 68 rfl ?_
        refine g_aload hC dJ6_siftDownComparable_68 4 rfl gRef_r 70 rfl ?_
        refine g_aload hC dJ6_siftDownComparable_70 0 rfl gRef_r 72 rfl ?_
        refine g_callFiP (g_F (n := 1) (As := [.ref a2]) (rest := []) hC ⟨by decide +kernel, q633, q635, q121, q637, by decide +kernel⟩ q1220 (gOf.of hC.K cI8 hM_3) (hC.at cI8) (met_Fr_cmp l G M a3 a2 d3 d2 hM_3 hM_2) ⟨rfl, rfl⟩ ⟨(Nat.le_of_ble_eq_true rfl), (Nat.le_of_ble_eq_true rfl)⟩ rfl (Nat.le_of_ble_eq_true rfl) dJ6_siftDownComparable_72 rfl ⟨(Nat.le_of_ble_eq_true rfl), (Nat.le_of_ble_eq_true rfl)⟩) 77 rfl 0 (Nat.le_of_ble_eq_true rfl) ?_
        refine g_if_gt hC dJ6_siftDownComparable_77 83 rfl 80 rfl (fun c_12 => ?_) (fun c_12 => ?_)
        · refine g_aload_n hC dJ6_siftDownComparable_83 7 rfl gRef_r 84 rfl ?_
          refine g_iload_n hC dJ6_siftDownComparable_84 5 rfl 85 rfl ?_
          refine g_aload hC dJ6_siftDownComparable_85 0 rfl gRef_r 87 rfl ?_
          refine g_astq hC hM_0 3 rfl (gOf.of hC.K cI8 hM_2) (Or.inr q3433) (vp_in_nI (n := 0) (by first | decide | omega) (by first | decide | omega)) 0 (nI_clamp (n := 0) (by decide)) dJ6_siftDownComparable_87 88 rfl (fun M13 hU14 => ?_)
          refine g_iload hC dJ6_siftDownComparable_88 1 rfl 90 rfl ?_
          refine g_istore_n hC dJ6_siftDownComparable_90 rfl (Nat.le_of_ble_eq_true rfl) [(0, .int 2), (7, .ref a2), (6, .int 2), (8, .int 2), (5, .int 1), (4, .ref a3), (1, .ref a3), (2, .ref wq), (3, .int 3)] rfl 91 rfl ?_
          refine g_goto hC dJ6_siftDownComparable_91 11 rfl ?_
          refine g_iload_n hC dJ6_siftDownComparable_11 0 rfl 12 rfl ?_
          refine g_iload hC dJ6_siftDownComparable_12 4 rfl 14 rfl ?_
          refine g_icmp_ge hC dJ6_siftDownComparable_14 94 rfl 17 rfl (fun c_15 => ?_) (fun c_15 => ?_)
          · refine g_aload_n hC dJ6_siftDownComparable_94 7 rfl gRef_r 95 rfl ?_
            refine g_iload_n hC dJ6_siftDownComparable_95 0 rfl 96 rfl ?_
            refine g_aload hC dJ6_siftDownComparable_96 5 rfl gRef_r 98 rfl ?_
            refine g_astq hC hU14.1 3 rfl (gOf.of hC.K cI8 (hU14.n (gne_oa hM_3 hM_0) hM_3)) (Or.inr q3433) (vp_in_nI (n := 2) (by first | decide | omega) (by first | decide | omega)) 2 (nI_clamp (n := 2) (by decide)) dJ6_siftDownComparable_98 99 rfl (fun M16 hU17 => ?_)
            exact g_vret hC (fun k9 hk9 => ⟨(by rw [hU17.1]; have hq : va_up (va_up (va_up (pqA [(a0, d0), (a1, d1), (a2, d2), (a3, d3)]) 3 none) 0 (some a2)) 2 (some a3) = pqA (pqPoll [(a0, d0), (a1, d1), (a2, d2), (a3, d3)]) := (by simp only [pqPoll, eq_false c_3, eq_true (Int32.not_le.mp c_3), eq_true c_12, eq_false (Int32.not_le.mpr c_12), if_true, if_false]; funext i; rcases i with _ | _ | _ | _ | i <;> simp [va_up, pqA]); rw [hq]), ((gFr.refl.up hU14 hM_0 (by simp)).up hU17 hU14.1 (by simp)), (by first | exact Nat.le_zero.mp hk9 | omega)⟩) dJ6_siftDownComparable_99 (Nat.le_of_ble_eq_true rfl) (Nat.le_of_ble_eq_true rfl)
          · exact absurd c_15 (by decide)
        · refine g_goto hC dJ6_siftDownComparable_80 94 rfl ?_
          refine g_aload_n hC dJ6_siftDownComparable_94 7 rfl gRef_r 95 rfl ?_
          refine g_iload_n hC dJ6_siftDownComparable_95 5 rfl 96 rfl ?_
          refine g_aload hC dJ6_siftDownComparable_96 4 rfl gRef_r 98 rfl ?_
          refine g_astq hC hM_0 3 rfl (gOf.of hC.K cI8 hM_3) (Or.inr q3433) (vp_in_nI (n := 0) (by first | decide | omega) (by first | decide | omega)) 0 (nI_clamp (n := 0) (by decide)) dJ6_siftDownComparable_98 99 rfl (fun M18 hU19 => ?_)
          exact g_vret hC (fun k9 hk9 => ⟨(by rw [hU19.1]; have hq : va_up (va_up (pqA [(a0, d0), (a1, d1), (a2, d2), (a3, d3)]) 3 none) 0 (some a3) = pqA (pqPoll [(a0, d0), (a1, d1), (a2, d2), (a3, d3)]) := (by simp only [pqPoll, eq_false c_3, eq_true (Int32.not_le.mp c_3), eq_false c_12, eq_true (Int32.not_lt.mp c_12), if_true, if_false]; funext i; rcases i with _ | _ | _ | _ | i <;> simp [va_up, pqA]); rw [hq]), (gFr.refl.up hU19 hM_0 (by simp)), (by first | exact Nat.le_zero.mp hk9 | omega)⟩) dJ6_siftDownComparable_99 (Nat.le_of_ble_eq_true rfl) (Nat.le_of_ble_eq_true rfl)
set_option maxHeartbeats 4000000 in
theorem met_PQ_poll_4 (l : Launch) (G : gG) (M : gM) (w : Nat) (wq : Nat) (t0 : Nat × Nat) (t1 : Nat × Nat) (mc : Int32) (a0 : Nat) (a1 : Nat) (a2 : Nat) (a3 : Nat) (d0 : frD) (d1 : frD) (d2 : frD) (d3 : frD)  (hM_0 : M w = some (t0, .inr (20, [.ref wq, .int (nI 4), .null, .int mc]))) (hM_1 : M wq = some (t1, .inl (gcs G 3, 4, .inr (.inr (.inr (.inr (pqA [(a0, d0), (a1, d1), (a2, d2), (a3, d3)]))))))) (hM_2 : M a0 = some ((0, 1), .inr (8, [.int d0.1, .int (bI d0.2.1), .int d0.2.2.1, .int d0.2.2.2.1, .int d0.2.2.2.2]))) (hM_3 : M a1 = some ((0, 1), .inr (8, [.int d1.1, .int (bI d1.2.1), .int d1.2.2.1, .int d1.2.2.2.1, .int d1.2.2.2.2]))) (hM_4 : M a2 = some ((0, 1), .inr (8, [.int d2.1, .int (bI d2.2.1), .int d2.2.2.1, .int d2.2.2.2.1, .int d2.2.2.2.2]))) (hM_5 : M a3 = some ((0, 1), .inr (8, [.int d3.1, .int (bI d3.2.1), .int d3.2.2.1, .int d3.2.2.2.1, .int d3.2.2.2.2]))) : Met l yJ6_poll (ws_ yJ6_poll cJ6_poll 6 (some (.object "java/lang/Object"))) ({ frames := 4, cells := 0, slots := 0, locals := 110 }) (gPc G [.ref w] M) (gQq G (fun r9 M9 k9 => r9 = (some a0) ∧ M9 w = some (t0, .inr (20, [.ref wq, .int (nI 3), .null, .int (mc + 1)])) ∧ M9 wq = some (t1, .inl (gcs G 3, 4, .inr (.inr (.inr (.inr (pqA (pqPoll [(a0, d0), (a1, d1), (a2, d2), (a3, d3)]))))))) ∧ gFr (gL [w, wq]) M M9 ∧ k9 = 0)) 0 0 (gA G) := by
  refine gMet [(0, .ref w)] (by decide) (Nat.le_of_ble_eq_true rfl) rfl ?_
  intro p e s m below meth c hC
  refine g_aload_n hC dJ6_poll_0 0 rfl gRef_r 1 rfl ?_
  refine g_get (v := .ref wq) hC cI20 hM_0 0 (Nat.le_of_ble_eq_true rfl) q291 rfl dJ6_poll_1 4 rfl ?_
  refine g_dup hC dJ6_poll_4 rfl 5 rfl ?_
  refine g_astore_n hC dJ6_poll_5 rfl gRef_r (Nat.le_of_ble_eq_true rfl) [(1, .ref wq), (0, .ref w)] rfl 6 rfl ?_
  refine g_iconst hC dJ6_poll_6 ki_0 7 rfl ?_
  refine g_aldq (r := some a0) hC hM_1 3 rfl (vp_in_nI (n := 0) (by first | decide | omega) (by first | decide | omega)) ((congrArg (pqA [(a0, d0), (a1, d1), (a2, d2), (a3, d3)]) (nI_clamp (n := 0) (by decide))).trans rfl) dJ6_poll_7 8 rfl ?_
  refine g_dup hC dJ6_poll_8 rfl 9 rfl ?_
  refine g_astore_n hC dJ6_poll_9 rfl gRef_r (Nat.le_of_ble_eq_true rfl) [(2, .ref a0), (1, .ref wq), (0, .ref w)] rfl 10 rfl ?_
  refine g_ifnull (r := some a0) hC dJ6_poll_10 79 rfl 13 rfl (fun q => by cases q) (fun _ _ => ?_)
  refine g_aload_n hC dJ6_poll_13 2 rfl gRef_r 14 rfl ?_
  refine g_dup hC dJ6_poll_14 rfl 15 rfl ?_
  refine g_get (v := .int mc) hC cI20 hM_0 3 (Nat.le_of_ble_eq_true rfl) q296 rfl dJ6_poll_15 18 rfl ?_
  refine g_iconst hC dJ6_poll_18 ki_1 19 rfl ?_
  refine g_iadd hC dJ6_poll_19 20 rfl ?_
  refine g_put hC cI20 hM_0 3 (Nat.le_of_ble_eq_true rfl) q296 rfl rfl rfl (Nat.le_of_ble_eq_true rfl) dJ6_poll_20 (fs' := [.ref wq, .int (nI 4), .null, .int (mc + 1)]) rfl 23 rfl (fun M2 hU3 => ?_)
  refine g_aload_n hC dJ6_poll_23 1 rfl gRef_r 24 rfl ?_
  refine g_aload_n hC dJ6_poll_24 2 rfl gRef_r 25 rfl ?_
  refine g_dup hC dJ6_poll_25 rfl 26 rfl ?_
  refine g_get (v := .int (nI 4)) hC cI20 hU3.1 1 (Nat.le_of_ble_eq_true rfl) q293 rfl dJ6_poll_26 29 rfl ?_
  refine g_iconst hC dJ6_poll_29 ki_1 30 rfl ?_
  refine g_isub hC dJ6_poll_30 31 rfl ?_
  refine g_topi (y := 3) (nI_s (a := 4) (b := 1) (c := 3) (by omega)) ?_
  refine g_dup_x1 hC dJ6_poll_31 rfl rfl 32 rfl ?_
  refine g_put hC cI20 hU3.1 1 (Nat.le_of_ble_eq_true rfl) q293 rfl rfl rfl (Nat.le_of_ble_eq_true rfl) dJ6_poll_32 (fs' := [.ref wq, .int 3, .null, .int (mc + 1)]) rfl 35 rfl (fun M4 hU5 => ?_)
  refine g_dup hC dJ6_poll_35 rfl 36 rfl ?_
  refine g_istore_n hC dJ6_poll_36 rfl (Nat.le_of_ble_eq_true rfl) [(3, .int 3), (2, .ref a0), (1, .ref wq), (0, .ref w)] rfl 37 rfl ?_
  refine g_aldq (r := some a3) hC (hU5.n (gne_ao (hU3.n (gne_ao hM_1 hM_0) hM_1) hU3.1) (hU3.n (gne_ao hM_1 hM_0) hM_1)) 3 rfl (vp_in_nI (n := 3) (by first | decide | omega) (by first | decide | omega)) ((congrArg (pqA [(a0, d0), (a1, d1), (a2, d2), (a3, d3)]) (nI_clamp (n := 3) (by decide))).trans rfl) dJ6_poll_37 38 rfl ?_
  refine g_astore hC dJ6_poll_38 gRef_r (Nat.le_of_ble_eq_true rfl) [(4, .ref a3), (3, .int 3), (2, .ref a0), (1, .ref wq), (0, .ref w)] rfl 40 rfl ?_
  refine g_aload_n hC dJ6_poll_40 3 rfl gRef_r 41 rfl ?_
  refine g_iload_n hC dJ6_poll_41 1 rfl 42 rfl ?_
  refine g_null hC dJ6_poll_42 43 rfl ?_
  refine g_astqN hC (hU5.n (gne_ao (hU3.n (gne_ao hM_1 hM_0) hM_1) hU3.1) (hU3.n (gne_ao hM_1 hM_0) hM_1)) 3 rfl (vp_in_nI (n := 3) (by first | decide | omega) (by first | decide | omega)) 3 (nI_clamp (n := 3) (by decide)) dJ6_poll_43 44 rfl (fun M6 hU7 => ?_)
  have hH8 := (hU7.n (gne_oa hU5.1 (hU5.n (gne_ao (hU3.n (gne_ao hM_1 hM_0) hM_1) hU3.1) (hU3.n (gne_ao hM_1 hM_0) hM_1))) hU5.1)
  have hH9 := (hU7.n (gne_oa (hU5.n (gne_c (hU3.n (gne_c hM_2 hM_0 (by decide)) hM_2) hU3.1 (by decide)) (hU3.n (gne_c hM_2 hM_0 (by decide)) hM_2)) (hU5.n (gne_ao (hU3.n (gne_ao hM_1 hM_0) hM_1) hU3.1) (hU3.n (gne_ao hM_1 hM_0) hM_1))) (hU5.n (gne_c (hU3.n (gne_c hM_2 hM_0 (by decide)) hM_2) hU3.1 (by decide)) (hU3.n (gne_c hM_2 hM_0 (by decide)) hM_2)))
  have hH10 := (hU7.n (gne_oa (hU5.n (gne_c (hU3.n (gne_c hM_3 hM_0 (by decide)) hM_3) hU3.1 (by decide)) (hU3.n (gne_c hM_3 hM_0 (by decide)) hM_3)) (hU5.n (gne_ao (hU3.n (gne_ao hM_1 hM_0) hM_1) hU3.1) (hU3.n (gne_ao hM_1 hM_0) hM_1))) (hU5.n (gne_c (hU3.n (gne_c hM_3 hM_0 (by decide)) hM_3) hU3.1 (by decide)) (hU3.n (gne_c hM_3 hM_0 (by decide)) hM_3)))
  have hH11 := (hU7.n (gne_oa (hU5.n (gne_c (hU3.n (gne_c hM_4 hM_0 (by decide)) hM_4) hU3.1 (by decide)) (hU3.n (gne_c hM_4 hM_0 (by decide)) hM_4)) (hU5.n (gne_ao (hU3.n (gne_ao hM_1 hM_0) hM_1) hU3.1) (hU3.n (gne_ao hM_1 hM_0) hM_1))) (hU5.n (gne_c (hU3.n (gne_c hM_4 hM_0 (by decide)) hM_4) hU3.1 (by decide)) (hU3.n (gne_c hM_4 hM_0 (by decide)) hM_4)))
  have hH12 := (hU7.n (gne_oa (hU5.n (gne_c (hU3.n (gne_c hM_5 hM_0 (by decide)) hM_5) hU3.1 (by decide)) (hU3.n (gne_c hM_5 hM_0 (by decide)) hM_5)) (hU5.n (gne_ao (hU3.n (gne_ao hM_1 hM_0) hM_1) hU3.1) (hU3.n (gne_ao hM_1 hM_0) hM_1))) (hU5.n (gne_c (hU3.n (gne_c hM_5 hM_0 (by decide)) hM_5) hU3.1 (by decide)) (hU3.n (gne_c hM_5 hM_0 (by decide)) hM_5)))
  refine g_iload_n hC dJ6_poll_44 1 rfl 45 rfl ?_
  refine g_if_le hC dJ6_poll_45 79 rfl 48 rfl (fun c_13 => ?_) (fun c_13 => ?_)
  · exact absurd c_13 (by decide)
  · refine g_aload_n hC dJ6_poll_48 4 rfl gRef_r 49 rfl ?_
    refine g_get (v := .null) hC cI20 hH8 2 (Nat.le_of_ble_eq_true rfl) q294 rfl dJ6_poll_49 52 rfl ?_
    refine g_dup hC dJ6_poll_52 rfl 53 rfl ?_
    refine g_astore hC dJ6_poll_53 gRef_n (Nat.le_of_ble_eq_true rfl) [(5, .null), (4, .ref a3), (3, .int 3), (2, .ref a0), (1, .ref wq), (0, .ref w)] rfl 55 rfl ?_
    refine g_ifnonnull (r := none) hC dJ6_poll_55 69 rfl 58 rfl (fun _ q => by cases q) (fun _ => ?_)
    refine g_iconst hC dJ6_poll_58 ki_0 59 rfl ?_
    refine g_aload hC dJ6_poll_59 1 rfl gRef_r 61 rfl ?_
    refine g_aload_n hC dJ6_poll_61 4 rfl gRef_r 62 rfl ?_
    refine g_iload_n hC dJ6_poll_62 2 rfl 63 rfl ?_
    refine g_callv (g_S (As := [.int 0, .ref a3, .ref wq, .int 3]) (rest := []) hC msJ6_siftDownComparable q2086 (met_PQ_down_4 l G M6 wq t1 a0 a1 a2 a3 d0 d1 d2 d3 hU7.1 hH10 hH11 hH12) ⟨rfl, rfl⟩ ⟨(Nat.le_of_ble_eq_true rfl), (Nat.le_of_ble_eq_true rfl)⟩ rfl (Nat.le_of_ble_eq_true rfl) dJ6_poll_63 rfl ⟨(Nat.le_of_ble_eq_true rfl), (Nat.le_of_ble_eq_true rfl)⟩) 0 (Nat.le_of_ble_eq_true rfl) 0 (Nat.le_of_ble_eq_true rfl) 66 rfl (fun M15 k16 hp17 => ?_)
    obtain ⟨hc19, hF20, hk21⟩ := hp17
    refine g_goto hC dJ6_poll_66 79 rfl ?_
    refine g_aload_n hC dJ6_poll_79 3 rfl gRef_r 80 rfl ?_
    exact g_aret (v := some a0) hC (by first | exact Or.inl ⟨_, rfl⟩ | exact Or.inr ⟨_, rfl⟩) (fun k9 hk9 => ⟨rfl, (by rw [(hF20 _ _ _ hH8 (gno (gne_oa hH8 hU7.1) gno0))]; all_goals (first | rfl | (simp only [eq_false c_13, eq_true (Int32.not_le.mp c_13), if_true, if_false, true_and, and_true, false_and, and_false, true_or, or_true, false_or, or_false, not_true_eq_false, not_false_eq_true, reduceIte, decide_true, decide_false, Bool.false_eq_true]; done) | (simp only [eq_false c_13, eq_true (Int32.not_le.mp c_13), if_true, if_false, true_and, and_true, false_and, and_false, true_or, or_true, false_or, or_false, not_true_eq_false, not_false_eq_true, reduceIte, decide_true, decide_false, Bool.false_eq_true]; rfl) | (simp only [c_13, Int32.not_le.mp c_13, if_true, if_false, true_and, and_true, false_and, and_false, true_or, or_true, false_or, or_false, not_true_eq_false, not_false_eq_true, reduceIte, decide_true, decide_false, Bool.false_eq_true]; done) | (simp only []; simp only [if_true, if_false, true_and, and_true, false_and, and_false, true_or, or_true, false_or, or_false, not_true_eq_false, not_false_eq_true, reduceIte, decide_true, decide_false, Bool.false_eq_true, eq_false c_13, eq_true (Int32.not_le.mp c_13)]; done) | (simp only []; simp only [if_true, if_false, true_and, and_true, false_and, and_false, true_or, or_true, false_or, or_false, not_true_eq_false, not_false_eq_true, reduceIte, decide_true, decide_false, Bool.false_eq_true, c_13, Int32.not_le.mp c_13]; done) | (simp only []; simp only [if_true, if_false, true_and, and_true, false_and, and_false, true_or, or_true, false_or, or_false, not_true_eq_false, not_false_eq_true, reduceIte, decide_true, decide_false, Bool.false_eq_true, c_13, Int32.not_le.mp c_13]; simp only []; done) | (simp only [c_13, Int32.not_le.mp c_13, if_true, if_false, true_and, and_true, false_and, and_false, true_or, or_true, false_or, or_false, not_true_eq_false, not_false_eq_true, reduceIte, decide_true, decide_false, Bool.false_eq_true]; rfl) | (simp only []; simp only [if_true, if_false, true_and, and_true, false_and, and_false, true_or, or_true, false_or, or_false, not_true_eq_false, not_false_eq_true, reduceIte, decide_true, decide_false, Bool.false_eq_true, c_13, Int32.not_le.mp c_13]; rfl) | (simp only []; rfl) | (simp only [c_13, Int32.not_le.mp c_13, if_true, if_false, true_and, and_true, false_and, and_false, true_or, or_true, false_or, or_false, not_true_eq_false, not_false_eq_true, reduceIte, decide_true, decide_false, Bool.false_eq_true]; rfl) | (simp_all []; done))), hc19, ((((gFr.refl.up hU3 hM_0 (by simp)).up hU5 hU3.1 (by simp)).up hU7 (hU5.n (gne_ao (hU3.n (gne_ao hM_1 hM_0) hM_1) hU3.1) (hU3.n (gne_ao hM_1 hM_0) hM_1)) (by simp)).trans (hF20.mono (by intro b t hb; simp at hb ⊢; first | done | (rcases hb with rfl | rfl | rfl | rfl <;> simp) | (simp [hb]; done)))), (by first | exact Nat.le_zero.mp hk9 | omega)⟩) dJ6_poll_80 (Nat.le_of_ble_eq_true rfl) (Nat.le_of_ble_eq_true rfl)
set_option maxHeartbeats 4000000 in
theorem met_PQ_poll_1 (l : Launch) (G : gG) (M : gM) (w : Nat) (wq : Nat) (t0 : Nat × Nat) (t1 : Nat × Nat) (mc : Int32) (a0 : Nat) (d0 : frD)  (hM_0 : M w = some (t0, .inr (20, [.ref wq, .int (nI 1), .null, .int mc]))) (hM_1 : M wq = some (t1, .inl (gcs G 3, 4, .inr (.inr (.inr (.inr (pqA [(a0, d0)]))))))) (hM_2 : M a0 = some ((0, 1), .inr (8, [.int d0.1, .int (bI d0.2.1), .int d0.2.2.1, .int d0.2.2.2.1, .int d0.2.2.2.2]))) : Met l yJ6_poll (ws_ yJ6_poll cJ6_poll 6 (some (.object "java/lang/Object"))) ({ frames := 4, cells := 0, slots := 0, locals := 110 }) (gPc G [.ref w] M) (gQq G (fun r9 M9 k9 => r9 = (some a0) ∧ M9 w = some (t0, .inr (20, [.ref wq, .int (nI 0), .null, .int (mc + 1)])) ∧ M9 wq = some (t1, .inl (gcs G 3, 4, .inr (.inr (.inr (.inr (pqA (pqPoll [(a0, d0)]))))))) ∧ gFr (gL [w, wq]) M M9 ∧ k9 = 0)) 0 0 (gA G) := by
  refine gMet [(0, .ref w)] (by decide) (Nat.le_of_ble_eq_true rfl) rfl ?_
  intro p e s m below meth c hC
  refine g_aload_n hC dJ6_poll_0 0 rfl gRef_r 1 rfl ?_
  refine g_get (v := .ref wq) hC cI20 hM_0 0 (Nat.le_of_ble_eq_true rfl) q291 rfl dJ6_poll_1 4 rfl ?_
  refine g_dup hC dJ6_poll_4 rfl 5 rfl ?_
  refine g_astore_n hC dJ6_poll_5 rfl gRef_r (Nat.le_of_ble_eq_true rfl) [(1, .ref wq), (0, .ref w)] rfl 6 rfl ?_
  refine g_iconst hC dJ6_poll_6 ki_0 7 rfl ?_
  refine g_aldq (r := some a0) hC hM_1 3 rfl (vp_in_nI (n := 0) (by first | decide | omega) (by first | decide | omega)) ((congrArg (pqA [(a0, d0)]) (nI_clamp (n := 0) (by decide))).trans rfl) dJ6_poll_7 8 rfl ?_
  refine g_dup hC dJ6_poll_8 rfl 9 rfl ?_
  refine g_astore_n hC dJ6_poll_9 rfl gRef_r (Nat.le_of_ble_eq_true rfl) [(2, .ref a0), (1, .ref wq), (0, .ref w)] rfl 10 rfl ?_
  refine g_ifnull (r := some a0) hC dJ6_poll_10 79 rfl 13 rfl (fun q => by cases q) (fun _ _ => ?_)
  refine g_aload_n hC dJ6_poll_13 2 rfl gRef_r 14 rfl ?_
  refine g_dup hC dJ6_poll_14 rfl 15 rfl ?_
  refine g_get (v := .int mc) hC cI20 hM_0 3 (Nat.le_of_ble_eq_true rfl) q296 rfl dJ6_poll_15 18 rfl ?_
  refine g_iconst hC dJ6_poll_18 ki_1 19 rfl ?_
  refine g_iadd hC dJ6_poll_19 20 rfl ?_
  refine g_put hC cI20 hM_0 3 (Nat.le_of_ble_eq_true rfl) q296 rfl rfl rfl (Nat.le_of_ble_eq_true rfl) dJ6_poll_20 (fs' := [.ref wq, .int (nI 1), .null, .int (mc + 1)]) rfl 23 rfl (fun M2 hU3 => ?_)
  refine g_aload_n hC dJ6_poll_23 1 rfl gRef_r 24 rfl ?_
  refine g_aload_n hC dJ6_poll_24 2 rfl gRef_r 25 rfl ?_
  refine g_dup hC dJ6_poll_25 rfl 26 rfl ?_
  refine g_get (v := .int (nI 1)) hC cI20 hU3.1 1 (Nat.le_of_ble_eq_true rfl) q293 rfl dJ6_poll_26 29 rfl ?_
  refine g_iconst hC dJ6_poll_29 ki_1 30 rfl ?_
  refine g_isub hC dJ6_poll_30 31 rfl ?_
  refine g_topi (y := 0) (nI_s (a := 1) (b := 1) (c := 0) (by omega)) ?_
  refine g_dup_x1 hC dJ6_poll_31 rfl rfl 32 rfl ?_
  refine g_put hC cI20 hU3.1 1 (Nat.le_of_ble_eq_true rfl) q293 rfl rfl rfl (Nat.le_of_ble_eq_true rfl) dJ6_poll_32 (fs' := [.ref wq, .int 0, .null, .int (mc + 1)]) rfl 35 rfl (fun M4 hU5 => ?_)
  refine g_dup hC dJ6_poll_35 rfl 36 rfl ?_
  refine g_istore_n hC dJ6_poll_36 rfl (Nat.le_of_ble_eq_true rfl) [(3, .int 0), (2, .ref a0), (1, .ref wq), (0, .ref w)] rfl 37 rfl ?_
  refine g_aldq (r := some a0) hC (hU5.n (gne_ao (hU3.n (gne_ao hM_1 hM_0) hM_1) hU3.1) (hU3.n (gne_ao hM_1 hM_0) hM_1)) 3 rfl (vp_in_nI (n := 0) (by first | decide | omega) (by first | decide | omega)) ((congrArg (pqA [(a0, d0)]) (nI_clamp (n := 0) (by decide))).trans rfl) dJ6_poll_37 38 rfl ?_
  refine g_astore hC dJ6_poll_38 gRef_r (Nat.le_of_ble_eq_true rfl) [(4, .ref a0), (3, .int 0), (2, .ref a0), (1, .ref wq), (0, .ref w)] rfl 40 rfl ?_
  refine g_aload_n hC dJ6_poll_40 3 rfl gRef_r 41 rfl ?_
  refine g_iload_n hC dJ6_poll_41 1 rfl 42 rfl ?_
  refine g_null hC dJ6_poll_42 43 rfl ?_
  refine g_astqN hC (hU5.n (gne_ao (hU3.n (gne_ao hM_1 hM_0) hM_1) hU3.1) (hU3.n (gne_ao hM_1 hM_0) hM_1)) 3 rfl (vp_in_nI (n := 0) (by first | decide | omega) (by first | decide | omega)) 0 (nI_clamp (n := 0) (by decide)) dJ6_poll_43 44 rfl (fun M6 hU7 => ?_)
  have hH8 := (hU7.n (gne_oa hU5.1 (hU5.n (gne_ao (hU3.n (gne_ao hM_1 hM_0) hM_1) hU3.1) (hU3.n (gne_ao hM_1 hM_0) hM_1))) hU5.1)
  have hH9 := (hU7.n (gne_oa (hU5.n (gne_c (hU3.n (gne_c hM_2 hM_0 (by decide)) hM_2) hU3.1 (by decide)) (hU3.n (gne_c hM_2 hM_0 (by decide)) hM_2)) (hU5.n (gne_ao (hU3.n (gne_ao hM_1 hM_0) hM_1) hU3.1) (hU3.n (gne_ao hM_1 hM_0) hM_1))) (hU5.n (gne_c (hU3.n (gne_c hM_2 hM_0 (by decide)) hM_2) hU3.1 (by decide)) (hU3.n (gne_c hM_2 hM_0 (by decide)) hM_2)))
  refine g_iload_n hC dJ6_poll_44 1 rfl 45 rfl ?_
  refine g_if_le hC dJ6_poll_45 79 rfl 48 rfl (fun c_10 => ?_) (fun c_10 => ?_)
  · refine g_aload_n hC dJ6_poll_79 2 rfl gRef_r 80 rfl ?_
    exact g_aret (v := some a0) hC (by first | exact Or.inl ⟨_, rfl⟩ | exact Or.inr ⟨_, rfl⟩) (fun k9 hk9 => ⟨rfl, (by rw [hH8]; all_goals (first | rfl | (simp only [eq_true c_10, eq_false (Int32.not_lt.mpr c_10), if_true, if_false, true_and, and_true, false_and, and_false, true_or, or_true, false_or, or_false, not_true_eq_false, not_false_eq_true, reduceIte, decide_true, decide_false, Bool.false_eq_true]; done) | (simp only [eq_true c_10, eq_false (Int32.not_lt.mpr c_10), if_true, if_false, true_and, and_true, false_and, and_false, true_or, or_true, false_or, or_false, not_true_eq_false, not_false_eq_true, reduceIte, decide_true, decide_false, Bool.false_eq_true]; rfl) | (simp only [c_10, Int32.not_lt.mpr c_10, if_true, if_false, true_and, and_true, false_and, and_false, true_or, or_true, false_or, or_false, not_true_eq_false, not_false_eq_true, reduceIte, decide_true, decide_false, Bool.false_eq_true]; done) | (simp only []; simp only [if_true, if_false, true_and, and_true, false_and, and_false, true_or, or_true, false_or, or_false, not_true_eq_false, not_false_eq_true, reduceIte, decide_true, decide_false, Bool.false_eq_true, eq_true c_10, eq_false (Int32.not_lt.mpr c_10)]; done) | (simp only []; simp only [if_true, if_false, true_and, and_true, false_and, and_false, true_or, or_true, false_or, or_false, not_true_eq_false, not_false_eq_true, reduceIte, decide_true, decide_false, Bool.false_eq_true, c_10, Int32.not_lt.mpr c_10]; done) | (simp only []; simp only [if_true, if_false, true_and, and_true, false_and, and_false, true_or, or_true, false_or, or_false, not_true_eq_false, not_false_eq_true, reduceIte, decide_true, decide_false, Bool.false_eq_true, c_10, Int32.not_lt.mpr c_10]; simp only []; done) | (simp only [c_10, Int32.not_lt.mpr c_10, if_true, if_false, true_and, and_true, false_and, and_false, true_or, or_true, false_or, or_false, not_true_eq_false, not_false_eq_true, reduceIte, decide_true, decide_false, Bool.false_eq_true]; rfl) | (simp only []; simp only [if_true, if_false, true_and, and_true, false_and, and_false, true_or, or_true, false_or, or_false, not_true_eq_false, not_false_eq_true, reduceIte, decide_true, decide_false, Bool.false_eq_true, c_10, Int32.not_lt.mpr c_10]; rfl) | (simp only []; rfl) | (simp only [c_10, Int32.not_lt.mpr c_10, if_true, if_false, true_and, and_true, false_and, and_false, true_or, or_true, false_or, or_false, not_true_eq_false, not_false_eq_true, reduceIte, decide_true, decide_false, Bool.false_eq_true]; rfl) | (simp_all []; done))), (by rw [hU7.1]; have hq : va_up (pqA [(a0, d0)]) 0 none = pqA (pqPoll [(a0, d0)]) := (by simp only [pqPoll, if_true, if_false]; funext i; rcases i with _ | _ | _ | _ | i <;> simp [va_up, pqA]); rw [hq]), (((gFr.refl.up hU3 hM_0 (by simp)).up hU5 hU3.1 (by simp)).up hU7 (hU5.n (gne_ao (hU3.n (gne_ao hM_1 hM_0) hM_1) hU3.1) (hU3.n (gne_ao hM_1 hM_0) hM_1)) (by simp)), (by first | exact Nat.le_zero.mp hk9 | omega)⟩) dJ6_poll_80 (Nat.le_of_ble_eq_true rfl) (Nat.le_of_ble_eq_true rfl)
  · exact absurd c_10 (by decide)
theorem pqPoll_len {L : List pqE} (h : L.length ≤ 4) : (pqPoll L).length = L.length - 1 := by
  rcases L with _ | ⟨a, _ | ⟨b, _ | ⟨c, _ | ⟨d, _ | ⟨e, L⟩⟩⟩⟩⟩
  · rfl
  · rfl
  · rfl
  · simp only [pqPoll]; split <;> rfl
  · simp only [pqPoll]; repeat' split
    all_goals rfl
  · simp only [List.length_cons] at h; omega
theorem pqPoll_mem {L : List pqE} {e : pqE} (he : e ∈ pqPoll L) : e ∈ L := by
  rcases L with _ | ⟨a, _ | ⟨b, _ | ⟨c, _ | ⟨d, _ | ⟨z, L⟩⟩⟩⟩⟩
  · exact he
  · simp [pqPoll] at he
  · simp [pqPoll] at he; simp [he]
  · simp only [pqPoll] at he; split at he <;> simp at he ⊢ <;> grind
  · simp only [pqPoll] at he; repeat' split at he
    all_goals (simp at he ⊢; grind)
  · simp [pqPoll] at he
set_option maxHeartbeats 4000000 in
theorem met_PQ_poll (l : Launch) (G : gG) (M : gM) (w : Nat) (wq : Nat) (t0 : Nat × Nat) (t1 : Nat × Nat) (mc : Int32) (L : List pqE) (e9 : pqE) (hL : L.length ≤ 4) (he : L.head? = some e9) (hM_0 : M w = some (t0, .inr (20, [.ref wq, .int (nI L.length), .null, .int mc]))) (hM_1 : M wq = some (t1, .inl (gcs G 3, 4, .inr (.inr (.inr (.inr (pqA L))))))) (hP_0 : frs M L) : Met l yJ6_poll (ws_ yJ6_poll cJ6_poll 6 (some (.object "java/lang/Object"))) ({ frames := 4, cells := 0, slots := 0, locals := 110 }) (gPc G [.ref w] M) (gQq G (fun r9 M9 k9 => r9 = (some e9.1) ∧ M9 w = some (t0, .inr (20, [.ref wq, .int (nI (L.length - 1)), .null, .int (mc + 1)])) ∧ M9 wq = some (t1, .inl (gcs G 3, 4, .inr (.inr (.inr (.inr (pqA (pqPoll L))))))) ∧ frs M9 (pqPoll L) ∧ gFr (gL [w, wq]) M M9 ∧ k9 = 0)) 0 0 (gA G) := by
  have hpost : ∀ (r9 : Option Nat) (M9 : gM) (k9 : Nat), (r9 = some e9.1 ∧ M9 w = some (t0, .inr (20, [.ref wq, .int (nI (L.length - 1)), .null, .int (mc + 1)])) ∧ M9 wq = some (t1, .inl (gcs G 3, 4, .inr (.inr (.inr (.inr (pqA (pqPoll L))))))) ∧ gFr (gL [w, wq]) M M9 ∧ k9 = 0) → (r9 = some e9.1 ∧ M9 w = some (t0, .inr (20, [.ref wq, .int (nI (L.length - 1)), .null, .int (mc + 1)])) ∧ M9 wq = some (t1, .inl (gcs G 3, 4, .inr (.inr (.inr (.inr (pqA (pqPoll L))))))) ∧ frs M9 (pqPoll L) ∧ gFr (gL [w, wq]) M M9 ∧ k9 = 0) := by
    intro r9 M9 k9 ⟨h1, h2, h3, h4, h5⟩
    refine ⟨h1, h2, h3, fun e he => ?_, h4, h5⟩
    have hfe := hP_0 e (pqPoll_mem he)
    exact h4 _ _ _ hfe (gno (gne_c hfe hM_0 (by decide)) (gno (gne_oa hfe hM_1) gno0))
  rcases L with _ | ⟨⟨a0, d0⟩, _ | ⟨⟨a1, d1⟩, _ | ⟨⟨a2, d2⟩, _ | ⟨⟨a3, d3⟩, _ | ⟨e4, L⟩⟩⟩⟩⟩
  · exact absurd he (by simp)
  · cases Option.some.inj he; exact gMono_q (met_PQ_poll_1 l G M w wq t0 t1 mc a0 d0 hM_0 hM_1 (hP_0 (a0, d0) (by simp))) hpost
  · cases Option.some.inj he; exact gMono_q (met_PQ_poll_2 l G M w wq t0 t1 mc a0 a1 d0 d1 hM_0 hM_1 (hP_0 (a0, d0) (by simp)) (hP_0 (a1, d1) (by simp))) hpost
  · cases Option.some.inj he; exact gMono_q (met_PQ_poll_3 l G M w wq t0 t1 mc a0 a1 a2 d0 d1 d2 hM_0 hM_1 (hP_0 (a0, d0) (by simp)) (hP_0 (a1, d1) (by simp)) (hP_0 (a2, d2) (by simp))) hpost
  · cases Option.some.inj he; exact gMono_q (met_PQ_poll_4 l G M w wq t0 t1 mc a0 a1 a2 a3 d0 d1 d2 d3 hM_0 hM_1 (hP_0 (a0, d0) (by simp)) (hP_0 (a1, d1) (by simp)) (hP_0 (a2, d2) (by simp)) (hP_0 (a3, d3) (by simp))) hpost
  · simp only [List.length_cons] at hL; omega
