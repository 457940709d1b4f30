/-! ArrayDeque of frames (at most six, eight places) -/
set_option maxRecDepth 100000
def dqA (h : Nat) (L : List pqE) : Nat → Option Nat := fun i => if i < 8 then (L[(i + 8 - h) % 8]?).map Prod.fst else none
theorem dqA_get {h i : Nat} {L : List pqE} {e : pqE} (hh : h < 8) (hL : L.length ≤ 7) (he : L[i]? = some e) : dqA h L ((h + i) % 8) = some e.1 := by
  have hi := (List.getElem?_eq_some_iff.mp he).1
  simp only [dqA, if_pos (show (h + i) % 8 < 8 by omega), show ((h + i) % 8 + 8 - h) % 8 = i by omega, he, Option.map_some]
theorem dqA_none {h : Nat} {L : List pqE} (hh : h < 8) : dqA h L h = L.head?.map Prod.fst := by
  simp only [dqA, if_pos hh, show (h + 8 - h) % 8 = 0 by omega]
  cases L <;> rfl
theorem dqA_add {h : Nat} {L : List pqE} {x : pqE} (hh : h < 8) (hL : L.length ≤ 7) : va_up (dqA h L) ((h + L.length) % 8) (some x.1) = dqA h (L ++ [x]) := by
  funext i
  simp only [va_up, dqA]
  by_cases hi : i < 8
  · simp only [if_pos hi]
    by_cases q : i = (h + L.length) % 8
    · rw [if_pos q, show (i + 8 - h) % 8 = L.length by omega]; simp
    · rw [if_neg q]
      by_cases h2 : (i + 8 - h) % 8 < L.length
      · rw [List.getElem?_append_left h2]
      · rw [List.getElem?_eq_none (by omega), List.getElem?_eq_none (by simp; omega)]
  · rw [if_neg (by omega), if_neg hi, if_neg hi]
theorem dqA_poll {h : Nat} {e : pqE} {L : List pqE} (hh : h < 8) (hL : L.length ≤ 6) : va_up (dqA h (e :: L)) h none = dqA ((h + 1) % 8) L := by
  funext i
  simp only [va_up, dqA]
  by_cases hi : i < 8
  · simp only [if_pos hi]
    by_cases q : i = h
    · rw [if_pos q, List.getElem?_eq_none (by omega)]; rfl
    · rw [if_neg q, show (i + 8 - h) % 8 = (i + 8 - (h + 1) % 8) % 8 + 1 by omega, List.getElem?_cons_succ]
  · rw [if_neg (by omega), if_neg hi, if_neg hi]
theorem dqA_nil : (fun _ => none : Nat → Option Nat) = dqA 0 [] := by
  funext i; simp [dqA]
theorem sub8 : ∀ i, i < 8 → ∀ j, j < 8 → (if 0 ≤ nI i - nI j then nI i - nI j else nI i - nI j + nI 8) = nI ((i + 8 - j) % 8) := by decide
theorem inc8 {i : Nat} (h : ¬ i + 1 < 8) (hi : i < 8) : (0 : Int32) = nI ((i + 1) % 8) := by rw [show (i + 1) % 8 = 0 by omega]; rfl
set_option maxHeartbeats 4000000 in
theorem met_DQ_inc (l : Launch) (G : gG) (M : gM) (i : Nat) (hi : i < 8)  : Met l yJ7_inc (ws_ yJ7_inc cJ7_inc 2 (some .int)) ({ frames := 0, cells := 0, slots := 0, locals := 0 }) (gPc G [.int (nI i), .int (nI 8)] M) (gQi G (fun r9 M9 k9 => r9 = (nI ((i + 1) % 8)) ∧ M9 = M ∧ k9 = 0)) 0 0 (gA G) := by
  refine gMet [(0, .int (nI i)), (1, .int (nI 8))] (by decide) (Nat.le_of_ble_eq_true rfl) rfl ?_
  intro p e s m below meth c hC
  refine g_iinc hC dJ7_inc_0 0 rfl (v := nI (i + 1)) (by rw [ki_1]; exact nI_a (a := i) (b := 1) (c := (i + 1)) (by omega)) (Nat.le_of_ble_eq_true rfl) [(0, .int (nI (i + 1))), (1, .int (nI 8))] rfl 3 rfl ?_
  refine g_iload_n hC dJ7_inc_3 0 rfl 4 rfl ?_
  refine g_iload_n hC dJ7_inc_4 1 rfl 5 rfl ?_
  refine g_icmp_lt hC dJ7_inc_5 10 rfl 8 rfl (fun c_1 => ?_) (fun c_1 => ?_)
  · replace c_1 : i + 1 < 8 := nn_lt (by omega) (by omega) c_1
    refine g_iload_n hC dJ7_inc_10 0 rfl 11 rfl ?_
    exact g_iret (v := nI (i + 1)) hC (fun k9 hk9 => ⟨(congrArg nI (show i + 1 = (i + 1) % 8 by omega)), rfl, Nat.le_zero.mp hk9⟩) dJ7_inc_11 (Nat.le_of_ble_eq_true rfl) (Nat.le_of_ble_eq_true rfl)
  · replace c_1 : 8 ≤ i + 1 := nn_nlt (by omega) (by omega) c_1
    refine g_iconst hC dJ7_inc_8 ki_0 9 rfl ?_
    refine g_istore_n hC dJ7_inc_9 rfl (Nat.le_of_ble_eq_true rfl) [(0, .int 0), (1, .int (nI 8))] rfl 10 rfl ?_
    refine g_iload_n hC dJ7_inc_10 0 rfl 11 rfl ?_
    exact g_iret (v := 0) hC (fun k9 hk9 => ⟨(inc8 (by omega) hi), rfl, Nat.le_zero.mp hk9⟩) dJ7_inc_11 (Nat.le_of_ble_eq_true rfl) (Nat.le_of_ble_eq_true rfl)
set_option maxHeartbeats 4000000 in
theorem met_DQ_sub (l : Launch) (G : gG) (M : gM) (i : Nat) (j : Nat) (hi : i < 8) (hj : j < 8)  : Met l yJ7_sub (ws_ yJ7_sub cJ7_sub 3 (some .int)) ({ frames := 0, cells := 0, slots := 0, locals := 0 }) (gPc G [.int (nI i), .int (nI j), .int (nI 8)] M) (gQi G (fun r9 M9 k9 => r9 = (nI ((i + 8 - j) % 8)) ∧ M9 = M ∧ k9 = 0)) 0 0 (gA G) := by
  refine gMet [(0, .int (nI i)), (1, .int (nI j)), (2, .int (nI 8))] (by decide) (Nat.le_of_ble_eq_true rfl) rfl ?_
  intro p e s m below meth c hC
  refine g_iload_n hC dJ7_sub_0 0 rfl 1 rfl ?_
  refine g_iload_n hC dJ7_sub_1 1 rfl 2 rfl ?_
  refine g_isub hC dJ7_sub_2 3 rfl ?_
  refine g_dup hC dJ7_sub_3 rfl 4 rfl ?_
  refine g_istore_n hC dJ7_sub_4 rfl (Nat.le_of_ble_eq_true rfl) [(0, .int ((nI i) - (nI j))), (1, .int (nI j)), (2, .int (nI 8))] rfl 5 rfl ?_
  refine g_if_ge hC dJ7_sub_5 12 rfl 8 rfl (fun c_1 => ?_) (fun c_1 => ?_)
  · refine g_iload_n hC dJ7_sub_12 0 rfl 13 rfl ?_
    exact g_iret (v := (nI i) - (nI j)) hC (fun k9 hk9 => ⟨((if_pos c_1).symm.trans (sub8 i hi j hj)), rfl, Nat.le_zero.mp hk9⟩) dJ7_sub_13 (Nat.le_of_ble_eq_true rfl) (Nat.le_of_ble_eq_true rfl)
  · refine g_iload_n hC dJ7_sub_8 0 rfl 9 rfl ?_
    refine g_iload_n hC dJ7_sub_9 2 rfl 10 rfl ?_
    refine g_iadd hC dJ7_sub_10 11 rfl ?_
    refine g_istore_n hC dJ7_sub_11 rfl (Nat.le_of_ble_eq_true rfl) [(0, .int (((nI i) - (nI j)) + (nI 8))), (1, .int (nI j)), (2, .int (nI 8))] rfl 12 rfl ?_
    refine g_iload_n hC dJ7_sub_12 0 rfl 13 rfl ?_
    exact g_iret (v := ((nI i) - (nI j)) + (nI 8)) hC (fun k9 hk9 => ⟨((if_neg c_1).symm.trans (sub8 i hi j hj)), rfl, Nat.le_zero.mp hk9⟩) dJ7_sub_13 (Nat.le_of_ble_eq_true rfl) (Nat.le_of_ble_eq_true rfl)
set_option maxHeartbeats 4000000 in
theorem met_DQ_size (l : Launch) (G : gG) (M : gM) (d : Nat) (dq : Nat) (t0 : Nat × Nat) (t1 : Nat × Nat) (h : Nat) (L : List pqE) (hh : h < 8) (hL : L.length ≤ 6) (hM_0 : M d = some (t0, .inr (22, [.ref dq, .int (nI h), .int (nI ((h + L.length) % 8))]))) (hM_1 : M dq = some (t1, .inl (gcs G 3, 8, .inr (.inr (.inr (.inr (dqA h L))))))) : Met l yJ7_size (ws_ yJ7_size cJ7_size 1 (some .int)) ({ frames := 1, cells := 0, slots := 0, locals := 22 }) (gPc G [.ref d] M) (gQi G (fun r9 M9 k9 => r9 = (nI L.length) ∧ M9 = M ∧ k9 = 0)) 0 0 (gA G) := by
  refine gMet [(0, .ref d)] (by decide) (Nat.le_of_ble_eq_true rfl) rfl ?_
  intro p e s m below meth c hC
  refine g_aload_n hC dJ7_size_0 0 rfl gRef_r 1 rfl ?_
  refine g_get (v := .int (nI ((h + L.length) % 8))) hC cI22 hM_0 2 (Nat.le_of_ble_eq_true rfl) q318 rfl dJ7_size_1 4 rfl ?_
  refine g_aload_n hC dJ7_size_4 0 rfl gRef_r 5 rfl ?_
  refine g_get (v := .int (nI h)) hC cI22 hM_0 1 (Nat.le_of_ble_eq_true rfl) q317 rfl dJ7_size_5 8 rfl ?_
  refine g_aload_n hC dJ7_size_8 0 rfl gRef_r 9 rfl ?_
  refine g_get (v := .ref dq) hC cI22 hM_0 0 (Nat.le_of_ble_eq_true rfl) q314 rfl dJ7_size_9 12 rfl ?_
  refine g_alen (v := nI 8) hC hM_1 3 rfl rfl dJ7_size_12 13 rfl ?_
  refine g_calliP (g_S (As := [.int (nI ((h + L.length) % 8)), .int (nI h), .int (nI 8)]) (rest := []) hC msJ7_sub q2040 (met_DQ_sub l G M ((h + L.length) % 8) h (by first | assumption | decide | omega | (dsimp only; omega) | simp_all) hh) ⟨rfl, rfl⟩ ⟨(Nat.le_of_ble_eq_true rfl), (Nat.le_of_ble_eq_true rfl)⟩ rfl (Nat.le_of_ble_eq_true rfl) dJ7_size_13 rfl ⟨(Nat.le_of_ble_eq_true rfl), (Nat.le_of_ble_eq_true rfl)⟩) 16 rfl 0 (Nat.le_of_ble_eq_true rfl) ?_
  exact g_iret (v := nI ((((h + L.length) % 8) + 8 - h) % 8)) hC (fun k9 hk9 => ⟨(congrArg nI (show ((h + L.length) % 8 + 8 - h) % 8 = L.length by omega)), rfl, Nat.le_zero.mp hk9⟩) dJ7_size_16 (Nat.le_of_ble_eq_true rfl) (Nat.le_of_ble_eq_true rfl)
set_option maxHeartbeats 4000000 in
theorem met_DQ_addLast (l : Launch) (G : gG) (M : gM) (d : Nat) (dq : Nat) (t0 : Nat × Nat) (t1 : Nat × Nat) (h : Nat) (L : List pqE) (xa : Nat) (dx : frD) (hh : h < 8) (hL : L.length ≤ 5) (ht0 : t0.1 ≠ 0) (ht1 : t1.1 ≠ 0) (hM_0 : M d = some (t0, .inr (22, [.ref dq, .int (nI h), .int (nI ((h + L.length) % 8))]))) (hM_1 : M dq = some (t1, .inl (gcs G 3, 8, .inr (.inr (.inr (.inr (dqA h L))))))) (hM_2 : M xa = some ((0, 1), .inr (8, [.int dx.1, .int (bI dx.2.1), .int dx.2.2.1, .int dx.2.2.2.1, .int dx.2.2.2.2]))) (hP_0 : frs M L) : Met l yJ7_addLast (ws_ yJ7_addLast cJ7_addLast 3 none) ({ frames := 1, cells := 0, slots := 0, locals := 21 }) (gPc G [.ref d, .ref xa] M) (gQv G (fun M9 k9 => M9 d = some (t0, .inr (22, [.ref dq, .int (nI h), .int (nI ((h + (L ++ [(xa, dx)]).length) % 8))])) ∧ M9 dq = some (t1, .inl (gcs G 3, 8, .inr (.inr (.inr (.inr (dqA h (L ++ [(xa, dx)]))))))) ∧ frs M9 (L ++ [(xa, dx)]) ∧ gFr (gL [d, dq]) M M9 ∧ k9 = 0)) 0 0 (gA G) := by
  refine gMet [(0, .ref d), (1, .ref xa)] (by decide) (Nat.le_of_ble_eq_true rfl) rfl ?_
  intro p e s m below meth c hC
  refine g_aload_n hC dJ7_addLast_0 1 rfl gRef_r 1 rfl ?_
  refine g_ifnonnull (r := some xa) hC dJ7_addLast_1 12 rfl 4 rfl (fun _ _ => ?_) (fun q => by cases q)
  refine g_aload_n hC dJ7_addLast_12 0 rfl gRef_r 13 rfl ?_
  refine g_get (v := .ref dq) hC cI22 hM_0 0 (Nat.le_of_ble_eq_true rfl) q314 rfl dJ7_addLast_13 16 rfl ?_
  refine g_astore_n hC dJ7_addLast_16 rfl gRef_r (Nat.le_of_ble_eq_true rfl) [(2, .ref dq), (0, .ref d), (1, .ref xa)] rfl 17 rfl ?_
  refine g_aload_n hC dJ7_addLast_17 0 rfl gRef_r 18 rfl ?_
  refine g_aload_n hC dJ7_addLast_18 1 rfl gRef_r 19 rfl ?_
  refine g_get (v := .int (nI ((h + L.length) % 8))) hC cI22 hM_0 2 (Nat.le_of_ble_eq_true rfl) q318 rfl dJ7_addLast_19 22 rfl ?_
  refine g_aload_n hC dJ7_addLast_22 2 rfl gRef_r 23 rfl ?_
  refine g_astq hC hM_1 3 rfl (gOf.of hC.K cI8 hM_2) (Or.inr q3433) (vp_in_nI (by omega) (by omega)) ((h + L.length) % 8) (nI_clamp (by omega)) dJ7_addLast_23 24 rfl (fun M2 hU3 => ?_)
  refine g_aload_n hC dJ7_addLast_24 1 rfl gRef_r 25 rfl ?_
  refine g_get (v := .int (nI h)) hC cI22 (hU3.n (gne_oa hM_0 hM_1) hM_0) 1 (Nat.le_of_ble_eq_true rfl) q317 rfl dJ7_addLast_25 28 rfl ?_
  refine g_aload_n hC dJ7_addLast_28 1 rfl gRef_r 29 rfl ?_
  refine g_aload_n hC dJ7_addLast_29 1 rfl gRef_r 30 rfl ?_
  refine g_get (v := .int (nI ((h + L.length) % 8))) hC cI22 (hU3.n (gne_oa hM_0 hM_1) hM_0) 2 (Nat.le_of_ble_eq_true rfl) q318 rfl dJ7_addLast_30 33 rfl ?_
  refine g_aload_n hC dJ7_addLast_33 0 rfl gRef_r 34 rfl ?_
  refine g_alen (v := nI 8) hC hU3.1 3 rfl rfl dJ7_addLast_34 35 rfl ?_
  refine g_calliP (g_S (As := [.int (nI ((h + L.length) % 8)), .int (nI 8)]) (rest := [.ref d, .int (nI h)]) hC msJ7_inc q1732 (met_DQ_inc l G M2 ((h + L.length) % 8) (by first | assumption | decide | omega | (dsimp only; omega) | simp_all)) ⟨rfl, rfl⟩ ⟨(Nat.le_of_ble_eq_true rfl), (Nat.le_of_ble_eq_true rfl)⟩ rfl (Nat.le_of_ble_eq_true rfl) dJ7_addLast_35 rfl ⟨(Nat.le_of_ble_eq_true rfl), (Nat.le_of_ble_eq_true rfl)⟩) 38 rfl 0 (Nat.le_of_ble_eq_true rfl) ?_
  refine g_dup_x1 hC dJ7_addLast_38 rfl rfl 39 rfl ?_
  refine g_put hC cI22 (hU3.n (gne_oa hM_0 hM_1) hM_0) 2 (Nat.le_of_ble_eq_true rfl) q318 rfl rfl rfl (Nat.le_of_ble_eq_true rfl) dJ7_addLast_39 (fs' := [.ref dq, .int (nI h), .int (nI ((((h + L.length) % 8) + 1) % 8))]) rfl 42 rfl (fun M4 hU5 => ?_)
  refine g_icmp_ne hC dJ7_addLast_42 50 rfl 45 rfl (fun c_6 => ?_) (fun c_6 => ?_)
  · replace c_6 : ¬ h = (((h + L.length) % 8) + 1) % 8 := nn_neq (by omega) (by omega) c_6
    exact g_vret hC (fun k9 hk9 => ⟨(by rw [hU5.1, show (h + (L ++ [(xa, dx)]).length) % 8 = ((h + L.length) % 8 + 1) % 8 by simp only [List.length_append, List.length_cons, List.length_nil]; omega]), (by rw [(hU5.n (gne_ao hU3.1 (hU3.n (gne_oa hM_0 hM_1) hM_0)) hU3.1), dqA_add (x := (xa, dx)) hh (by omega)]), (fun e he => by rcases List.mem_append.mp he with he | he; exact ((frs.fr hP_0 ((gFr.refl.up hU3 hM_1 (show (fun t => ¬ (tgE 0 1) t) t1 by (try simp only [ndT, tgE, gT, tgR, ndT9, Prod.mk.injEq]); first | done | omega)).up hU5 (hU3.n (gne_oa hM_0 hM_1) hM_0) (show (fun t => ¬ (tgE 0 1) t) t0 by (try simp only [ndT, tgE, gT, tgR, ndT9, Prod.mk.injEq]); first | done | omega)))) e he; cases List.mem_singleton.mp he; exact (hU5.n (gne_c (hU3.n (gne_oa hM_2 hM_1) hM_2) (hU3.n (gne_oa hM_0 hM_1) hM_0) (by decide)) (hU3.n (gne_oa hM_2 hM_1) hM_2))), ((gFr.refl.up hU3 hM_1 (by simp)).up hU5 (hU3.n (gne_oa hM_0 hM_1) hM_0) (by simp)), (by first | exact Nat.le_zero.mp hk9 | omega)⟩) dJ7_addLast_50 (Nat.le_of_ble_eq_true rfl) (Nat.le_of_ble_eq_true rfl)
  · replace c_6 : h = (((h + L.length) % 8) + 1) % 8 := nn_eq (by omega) (by omega) c_6
    exact absurd c_6 (by omega)
set_option maxHeartbeats 4000000 in
theorem met_DQ_nonNull (l : Launch) (G : gG) (M : gM) (dq : Nat) (t1 : Nat × Nat) (f : Nat → Option Nat) (i : Nat) (a : Nat) (hi : i < 8) (hq : f i = some a) (hM_0 : M dq = some (t1, .inl (gcs G 3, 8, .inr (.inr (.inr (.inr f)))))) : Met l yJ7_nonNullElementAt (ws_ yJ7_nonNullElementAt cJ7_nonNullElementAt 3 (some (.object "java/lang/Object"))) ({ frames := 0, cells := 0, slots := 0, locals := 0 }) (gPc G [.ref dq, .int (nI i)] M) (gQq G (fun r9 M9 k9 => r9 = (some a) ∧ M9 = M ∧ k9 = 0)) 0 0 (gA G) := by
  refine gMet [(0, .ref dq), (1, .int (nI i))] (by decide) (Nat.le_of_ble_eq_true rfl) rfl ?_
  intro p e s m below meth c hC
  refine g_aload_n hC dJ7_nonNullElementAt_0 0 rfl gRef_r 1 rfl ?_
  refine g_iload_n hC dJ7_nonNullElementAt_1 1 rfl 2 rfl ?_
  refine g_aldq (r := some a) hC hM_0 3 rfl (vp_in_nI (by omega) (by omega)) ((congrArg f (nI_clamp (by omega))).trans hq) dJ7_nonNullElementAt_2 3 rfl ?_
  refine g_astore_n hC dJ7_nonNullElementAt_3 rfl gRef_r (Nat.le_of_ble_eq_true rfl) [(2, .ref a), (0, .ref dq), (1, .int (nI i))] rfl 4 rfl ?_
  refine g_aload_n hC dJ7_nonNullElementAt_4 0 rfl gRef_r 5 rfl ?_
  refine g_ifnonnull (r := some a) hC dJ7_nonNullElementAt_5 16 rfl 8 rfl (fun _ _ => ?_) (fun q => by cases q)
  refine g_aload_n hC dJ7_nonNullElementAt_16 0 rfl gRef_r 17 rfl ?_
  exact g_aret (v := some a) hC (by first | exact Or.inl ⟨_, rfl⟩ | exact Or.inr ⟨_, rfl⟩) (fun k9 hk9 => ⟨rfl, rfl, Nat.le_zero.mp hk9⟩) dJ7_nonNullElementAt_17 (Nat.le_of_ble_eq_true rfl) (Nat.le_of_ble_eq_true rfl)
set_option maxHeartbeats 4000000 in
theorem met_DQ_at (l : Launch) (G : gG) (M : gM) (dq : Nat) (t1 : Nat × Nat) (f : Nat → Option Nat) (i : Nat) (hi : i < 8) (hM_0 : M dq = some (t1, .inl (gcs G 3, 8, .inr (.inr (.inr (.inr f)))))) : Met l yJ7_elementAt (ws_ yJ7_elementAt cJ7_elementAt 2 (some (.object "java/lang/Object"))) ({ frames := 0, cells := 0, slots := 0, locals := 0 }) (gPc G [.ref dq, .int (nI i)] M) (gQq G (fun r9 M9 k9 => r9 = (f i) ∧ M9 = M ∧ k9 = 0)) 0 0 (gA G) := by
  refine gMet [(0, .ref dq), (1, .int (nI i))] (by decide) (Nat.le_of_ble_eq_true rfl) rfl ?_
  intro p e s m below meth c hC
  refine g_aload_n hC dJ7_elementAt_0 0 rfl gRef_r 1 rfl ?_
  refine g_iload_n hC dJ7_elementAt_1 1 rfl 2 rfl ?_
  refine g_aldq (r := f i) hC hM_0 3 rfl (vp_in_nI (by omega) (by omega)) ((congrArg f (nI_clamp (by omega))).trans rfl) dJ7_elementAt_2 3 rfl ?_
  exact g_aret (v := f i) hC (by first | exact Or.inl ⟨_, rfl⟩ | exact Or.inr ⟨_, rfl⟩) (fun k9 hk9 => ⟨rfl, rfl, Nat.le_zero.mp hk9⟩) dJ7_elementAt_3 (Nat.le_of_ble_eq_true rfl) (Nat.le_of_ble_eq_true rfl)
set_option maxHeartbeats 4000000 in
theorem met_DQ_poll_0 (l : Launch) (G : gG) (M : gM) (d : Nat) (dq : Nat) (t0 : Nat × Nat) (t1 : Nat × Nat) (h : Nat) (L : List pqE) (hh : h < 8) (hn : L = []) (hM_0 : M d = some (t0, .inr (22, [.ref dq, .int (nI h), .int (nI ((h + L.length) % 8))]))) (hM_1 : M dq = some (t1, .inl (gcs G 3, 8, .inr (.inr (.inr (.inr (dqA h L))))))) : Met l yJ7_pollFirst (ws_ yJ7_pollFirst cJ7_pollFirst 4 (some (.object "java/lang/Object"))) ({ frames := 1, cells := 0, slots := 0, locals := 21 }) (gPc G [.ref d] M) (gQq G (fun r9 M9 k9 => r9 = none ∧ M9 = M ∧ k9 = 0)) 0 0 (gA G) := by
  refine gMet [(0, .ref d)] (by decide) (Nat.le_of_ble_eq_true rfl) rfl ?_
  intro p e s m below meth c hC
  refine g_aload_n hC dJ7_pollFirst_0 0 rfl gRef_r 1 rfl ?_
  refine g_get (v := .ref dq) hC cI22 hM_0 0 (Nat.le_of_ble_eq_true rfl) q314 rfl dJ7_pollFirst_1 4 rfl ?_
  refine g_dup hC dJ7_pollFirst_4 rfl 5 rfl ?_
  refine g_astore_n hC dJ7_pollFirst_5 rfl gRef_r (Nat.le_of_ble_eq_true rfl) [(1, .ref dq), (0, .ref d)] rfl 6 rfl ?_
  refine g_aload_n hC dJ7_pollFirst_6 1 rfl gRef_r 7 rfl ?_
  refine g_get (v := .int (nI h)) hC cI22 hM_0 1 (Nat.le_of_ble_eq_true rfl) q317 rfl dJ7_pollFirst_7 10 rfl ?_
  refine g_dup hC dJ7_pollFirst_10 rfl 11 rfl ?_
  refine g_istore_n hC dJ7_pollFirst_11 rfl (Nat.le_of_ble_eq_true rfl) [(2, .int (nI h)), (1, .ref dq), (0, .ref d)] rfl 12 rfl ?_
  refine g_callqP (g_S (As := [.ref dq, .int (nI h)]) (rest := []) hC msJ7_elementAt q1729 (met_DQ_at l G M dq t1 (dqA h L) h hh hM_1) ⟨rfl, rfl⟩ ⟨(Nat.le_of_ble_eq_true rfl), (Nat.le_of_ble_eq_true rfl)⟩ rfl (Nat.le_of_ble_eq_true rfl) dJ7_pollFirst_12 rfl ⟨(Nat.le_of_ble_eq_true rfl), (Nat.le_of_ble_eq_true rfl)⟩) 15 rfl 0 (Nat.le_of_ble_eq_true rfl) ?_
  refine g_topv (y := va_rf (none)) (congrArg va_rf (by rw [dqA_none hh, hn]; rfl)) ?_
  refine g_astore_n hC dJ7_pollFirst_15 rfl gRef_n (Nat.le_of_ble_eq_true rfl) [(3, .null), (2, .int (nI h)), (1, .ref dq), (0, .ref d)] rfl 16 rfl ?_
  refine g_aload_n hC dJ7_pollFirst_16 0 rfl gRef_n 17 rfl ?_
  refine g_ifnull (r := none) hC dJ7_pollFirst_17 34 rfl 20 rfl (fun _ => ?_) (fun _ q => by cases q)
  refine g_aload_n hC dJ7_pollFirst_34 0 rfl gRef_n 35 rfl ?_
  exact g_aret (v := none) hC (by first | exact Or.inl ⟨_, rfl⟩ | exact Or.inr ⟨_, rfl⟩) (fun k9 hk9 => ⟨rfl, rfl, Nat.le_zero.mp hk9⟩) dJ7_pollFirst_35 (Nat.le_of_ble_eq_true rfl) (Nat.le_of_ble_eq_true rfl)
set_option maxHeartbeats 4000000 in
theorem met_DQ_poll (l : Launch) (G : gG) (M : gM) (d : Nat) (dq : Nat) (t0 : Nat × Nat) (t1 : Nat × Nat) (h : Nat) (L : List pqE) (e9 : pqE) (hh : h < 8) (hL : L.length ≤ 5) (hM_0 : M d = some (t0, .inr (22, [.ref dq, .int (nI h), .int (nI ((h + (e9 :: L).length) % 8))]))) (hM_1 : M dq = some (t1, .inl (gcs G 3, 8, .inr (.inr (.inr (.inr (dqA h (e9 :: L)))))))) : Met l yJ7_pollFirst (ws_ yJ7_pollFirst cJ7_pollFirst 4 (some (.object "java/lang/Object"))) ({ frames := 1, cells := 0, slots := 0, locals := 21 }) (gPc G [.ref d] M) (gQq G (fun r9 M9 k9 => r9 = (some e9.1) ∧ M9 d = some (t0, .inr (22, [.ref dq, .int (nI ((h + 1) % 8)), .int (nI (((h + 1) % 8 + L.length) % 8))])) ∧ M9 dq = some (t1, .inl (gcs G 3, 8, .inr (.inr (.inr (.inr (dqA ((h + 1) % 8) L)))))) ∧ gFr (gL [d, dq]) M M9 ∧ k9 = 0)) 0 0 (gA G) := by
  refine gMet [(0, .ref d)] (by decide) (Nat.le_of_ble_eq_true rfl) rfl ?_
  intro p e s m below meth c hC
  refine g_aload_n hC dJ7_pollFirst_0 0 rfl gRef_r 1 rfl ?_
  refine g_get (v := .ref dq) hC cI22 hM_0 0 (Nat.le_of_ble_eq_true rfl) q314 rfl dJ7_pollFirst_1 4 rfl ?_
  refine g_dup hC dJ7_pollFirst_4 rfl 5 rfl ?_
  refine g_astore_n hC dJ7_pollFirst_5 rfl gRef_r (Nat.le_of_ble_eq_true rfl) [(1, .ref dq), (0, .ref d)] rfl 6 rfl ?_
  refine g_aload_n hC dJ7_pollFirst_6 1 rfl gRef_r 7 rfl ?_
  refine g_get (v := .int (nI h)) hC cI22 hM_0 1 (Nat.le_of_ble_eq_true rfl) q317 rfl dJ7_pollFirst_7 10 rfl ?_
  refine g_dup hC dJ7_pollFirst_10 rfl 11 rfl ?_
  refine g_istore_n hC dJ7_pollFirst_11 rfl (Nat.le_of_ble_eq_true rfl) [(2, .int (nI h)), (1, .ref dq), (0, .ref d)] rfl 12 rfl ?_
  refine g_callqP (g_S (As := [.ref dq, .int (nI h)]) (rest := []) hC msJ7_elementAt q1729 (met_DQ_at l G M dq t1 (dqA h (e9 :: L)) h hh hM_1) ⟨rfl, rfl⟩ ⟨(Nat.le_of_ble_eq_true rfl), (Nat.le_of_ble_eq_true rfl)⟩ rfl (Nat.le_of_ble_eq_true rfl) dJ7_pollFirst_12 rfl ⟨(Nat.le_of_ble_eq_true rfl), (Nat.le_of_ble_eq_true rfl)⟩) 15 rfl 0 (Nat.le_of_ble_eq_true rfl) ?_
  refine g_topv (y := va_rf (some e9.1)) (congrArg va_rf (by rw [dqA_none hh]; rfl)) ?_
  refine g_astore_n hC dJ7_pollFirst_15 rfl gRef_r (Nat.le_of_ble_eq_true rfl) [(3, .ref e9.1), (2, .int (nI h)), (1, .ref dq), (0, .ref d)] rfl 16 rfl ?_
  refine g_aload_n hC dJ7_pollFirst_16 0 rfl gRef_r 17 rfl ?_
  refine g_ifnull (r := some e9.1) hC dJ7_pollFirst_17 34 rfl 20 rfl (fun q => by cases q) (fun _ _ => ?_)
  refine g_aload_n hC dJ7_pollFirst_20 2 rfl gRef_r 21 rfl ?_
  refine g_iload_n hC dJ7_pollFirst_21 1 rfl 22 rfl ?_
  refine g_null hC dJ7_pollFirst_22 23 rfl ?_
  refine g_astqN hC hM_1 3 rfl (vp_in_nI (by omega) (by omega)) h (nI_clamp (by omega)) dJ7_pollFirst_23 24 rfl (fun M2 hU3 => ?_)
  refine g_aload_n hC dJ7_pollFirst_24 3 rfl gRef_r 25 rfl ?_
  refine g_iload_n hC dJ7_pollFirst_25 1 rfl 26 rfl ?_
  refine g_aload_n hC dJ7_pollFirst_26 2 rfl gRef_r 27 rfl ?_
  refine g_alen (v := nI 8) hC hU3.1 3 rfl rfl dJ7_pollFirst_27 28 rfl ?_
  refine g_calliP (g_S (As := [.int (nI h), .int (nI 8)]) (rest := [.ref d]) hC msJ7_inc q1732 (met_DQ_inc l G M2 h hh) ⟨rfl, rfl⟩ ⟨(Nat.le_of_ble_eq_true rfl), (Nat.le_of_ble_eq_true rfl)⟩ rfl (Nat.le_of_ble_eq_true rfl) dJ7_pollFirst_28 rfl ⟨(Nat.le_of_ble_eq_true rfl), (Nat.le_of_ble_eq_true rfl)⟩) 31 rfl 0 (Nat.le_of_ble_eq_true rfl) ?_
  refine g_put hC cI22 (hU3.n (gne_oa hM_0 hM_1) hM_0) 1 (Nat.le_of_ble_eq_true rfl) q317 rfl rfl rfl (Nat.le_of_ble_eq_true rfl) dJ7_pollFirst_31 (fs' := [.ref dq, .int (nI ((h + 1) % 8)), .int (nI ((h + (e9 :: L).length) % 8))]) rfl 34 rfl (fun M4 hU5 => ?_)
  refine g_aload_n hC dJ7_pollFirst_34 0 rfl gRef_r 35 rfl ?_
  exact g_aret (v := some e9.1) hC (by first | exact Or.inl ⟨_, rfl⟩ | exact Or.inr ⟨_, rfl⟩) (fun k9 hk9 => ⟨rfl, (by rw [hU5.1, show (h + (e9 :: L).length) % 8 = ((h + 1) % 8 + L.length) % 8 by simp only [List.length_cons]; omega]), (by rw [(hU5.n (gne_ao hU3.1 (hU3.n (gne_oa hM_0 hM_1) hM_0)) hU3.1), dqA_poll hh (by omega)]), ((gFr.refl.up hU3 hM_1 (by simp)).up hU5 (hU3.n (gne_oa hM_0 hM_1) hM_0) (by simp)), (by first | exact Nat.le_zero.mp hk9 | omega)⟩) dJ7_pollFirst_35 (Nat.le_of_ble_eq_true rfl) (Nat.le_of_ble_eq_true rfl)
set_option maxHeartbeats 4000000 in
theorem met_DQ_init (l : Launch) (G : gG) (M : gM) (d : Nat) (t0 : Nat × Nat) (t1 : Nat × Nat)  (hM_0 : M d = some (t0, .inr (22, [.null, .int 0, .int 0]))) : Met l yJ7_init (ws_ yJ7_init cJ7_init 2 none) ({ frames := 2, cells := 1, slots := 8, locals := 32 }) (gPc G [.ref d, .int 7] M) (gQv G (fun M9 k9 => ∃ dq : Nat, M9 d = some (t0, .inr (22, [.ref dq, .int (nI 0), .int (nI ((0 + ([] : List pqE).length) % 8))])) ∧ M9 dq = some (t1, .inl (gcs G 3, 8, .inr (.inr (.inr (.inr (dqA 0 ([] : List pqE))))))) ∧ gFr (gL [d]) M M9 ∧ k9 ≤ 1)) 1 8 (gA G) := by
  refine gMet [(0, .ref d), (1, .int 7)] (by decide) (Nat.le_of_ble_eq_true rfl) rfl ?_
  intro p e s m below meth c hC
  refine g_aload_n hC dJ7_init_0 0 rfl gRef_r 1 rfl ?_
  refine g_callvP (g_I (As := []) (rest := []) hC miJ0_init q311 (met_J0_init l G M d) ⟨rfl, rfl⟩ ⟨(Nat.le_of_ble_eq_true rfl), (Nat.le_of_ble_eq_true rfl)⟩ rfl (Nat.le_of_ble_eq_true rfl) dJ7_init_1 rfl ⟨(Nat.le_of_ble_eq_true rfl), (Nat.le_of_ble_eq_true rfl)⟩) 4 rfl 0 (Nat.le_of_ble_eq_true rfl) ?_
  refine g_aload_n hC dJ7_init_4 0 rfl gRef_r 5 rfl ?_
  refine g_iload_n hC dJ7_init_5 1 rfl 6 rfl ?_
  refine g_iconst hC dJ7_init_6 ki_1 7 rfl ?_
  refine g_icmp_ge hC dJ7_init_7 14 rfl 10 rfl (fun c_1 => ?_) (fun c_1 => ?_)
  · refine g_iload_n hC dJ7_init_14 1 rfl 15 rfl ?_
    refine g_ldc hC q312 dJ7_init_15 17 rfl ?_
    refine g_icmp_ne hC dJ7_init_17 25 rfl 20 rfl (fun c_2 => ?_) (fun c_2 => ?_)
    · refine g_iload_n hC dJ7_init_25 1 rfl 26 rfl ?_
      refine g_iconst hC dJ7_init_26 ki_1 27 rfl ?_
      refine g_iadd hC dJ7_init_27 28 rfl ?_
      refine g_topi (y := 8) (nI_a (a := 7) (b := 1) (c := 8) (by omega)) ?_
      refine g_newq hC q313 hC.K.2.2.2.2.2.1.1 3 rfl t1 (n := 8) (N := 8) (by decide) (by decide) (Nat.le_of_ble_eq_true rfl) (Nat.le_of_ble_eq_true rfl) (Nat.le_of_ble_eq_true rfl) 1 (Nat.le_of_ble_eq_true rfl) 8 (Nat.le_of_ble_eq_true rfl) dJ7_init_28 31 rfl (fun a3 M4 hN5 => ?_)
      refine g_put hC cI22 (hN5.n hM_0) 0 (Nat.le_of_ble_eq_true rfl) q314 rfl rfl rfl (Nat.le_of_ble_eq_true rfl) dJ7_init_31 (fs' := [.ref a3, .int 0, .int 0]) rfl 34 rfl (fun M6 hU7 => ?_)
      exact g_vret hC (fun k9 hk9 => ⟨a3, (by rw [hU7.1]; rfl), (by rw [(hU7.n (Ne.symm (hN5.ne hM_0)) hN5.2.1), dqA_nil]), ((gFr.refl.nw hN5).up hU7 (hN5.n hM_0) (by simp)), (by first | exact Nat.le_zero.mp hk9 | omega)⟩) dJ7_init_34 (Nat.le_of_ble_eq_true rfl) (Nat.le_of_ble_eq_true rfl)
    · exact absurd c_2 (by decide)
  · exact absurd c_1 (by decide)
set_option maxHeartbeats 4000000 in
theorem met_DQi_init (l : Launch) (G : gG) (M : gM) (d : Nat) (dq : Nat) (t0 : Nat × Nat) (t1 : Nat × Nat) (h : Nat) (L : List pqE) (it : Nat) (hh : h < 8) (hL : L.length ≤ 6) (hM_0 : M d = some (t0, .inr (22, [.ref dq, .int (nI h), .int (nI ((h + L.length) % 8))]))) (hM_1 : M dq = some (t1, .inl (gcs G 3, 8, .inr (.inr (.inr (.inr (dqA h L))))))) (hM_2 : M it = some ((9, 0), .inr (23, [.int 0, .int 0, .int 0, .null]))) : Met l yJ37_init (ws_ yJ37_init cJ37_init 2 none) ({ frames := 2, cells := 0, slots := 0, locals := 42 }) (gPc G [.ref it, .ref d] M) (gQv G (fun M9 k9 => M9 it = some ((9, 0), .inr (23, [.int (nI ((h + 0) % 8)), .int (nI (L.length - 0)), .int (-1), .ref d])) ∧ gFr (gL [it]) M M9 ∧ k9 = 0)) 0 0 (gA G) := by
  refine gMet [(0, .ref it), (1, .ref d)] (by decide) (Nat.le_of_ble_eq_true rfl) rfl ?_
  intro p e s m below meth c hC
  refine g_aload_n hC dJ37_init_0 0 rfl gRef_r 1 rfl ?_
  refine g_aload_n hC dJ37_init_1 1 rfl gRef_r 2 rfl ?_
  refine g_putF hC cI23 hM_2 3 (Nat.le_of_ble_eq_true rfl) q2420 rfl rfl rfl rfl (Nat.le_of_ble_eq_true rfl) dJ37_init_2 (fs' := [.int 0, .int 0, .int 0, .ref d]) rfl 5 rfl (fun M1 hU2 => ?_)
  refine g_aload_n hC dJ37_init_5 0 rfl gRef_r 6 rfl ?_
  refine g_objInit hC q2415 q176 q177 dJ37_init_6 (Nat.le_of_ble_eq_true rfl) (Nat.le_of_ble_eq_true rfl) 9 rfl ?_
  refine g_aload_n hC dJ37_init_9 0 rfl gRef_r 10 rfl ?_
  refine g_aload_n hC dJ37_init_10 0 rfl gRef_r 11 rfl ?_
  refine g_get (v := .ref d) hC cI23 hU2.1 3 (Nat.le_of_ble_eq_true rfl) q2420 rfl dJ37_init_11 14 rfl ?_
  refine g_calliP (g_V (As := []) (rest := [.ref it]) hC mvJ7_size q2416 (gOf.of hC.K cI22 (hU2.n (gne_c hM_0 hM_2 (by decide)) hM_0)) (met_DQ_size l G M1 d dq t0 t1 h L hh hL (hU2.n (gne_c hM_0 hM_2 (by decide)) hM_0) (hU2.n (gne_ao hM_1 hM_2) hM_1)) ⟨rfl, rfl⟩ ⟨(Nat.le_of_ble_eq_true rfl), (Nat.le_of_ble_eq_true rfl)⟩ rfl (Nat.le_of_ble_eq_true rfl) dJ37_init_14 rfl ⟨(Nat.le_of_ble_eq_true rfl), (Nat.le_of_ble_eq_true rfl)⟩) 17 rfl 0 (Nat.le_of_ble_eq_true rfl) ?_
  refine g_put hC cI23 hU2.1 1 (Nat.le_of_ble_eq_true rfl) q2418 rfl rfl rfl (Nat.le_of_ble_eq_true rfl) dJ37_init_17 (fs' := [.int 0, .int (nI L.length), .int 0, .ref d]) rfl 20 rfl (fun M3 hU4 => ?_)
  refine g_aload_n hC dJ37_init_20 0 rfl gRef_r 21 rfl ?_
  refine g_iconst hC dJ37_init_21 ki_m1 22 rfl ?_
  refine g_put hC cI23 hU4.1 2 (Nat.le_of_ble_eq_true rfl) q2419 rfl rfl rfl (Nat.le_of_ble_eq_true rfl) dJ37_init_22 (fs' := [.int 0, .int (nI L.length), .int (-1), .ref d]) rfl 25 rfl (fun M5 hU6 => ?_)
  have hH7 := (hU6.n (gne_c (hU4.n (gne_c (hU2.n (gne_c hM_0 hM_2 (by decide)) hM_0) hU2.1 (by decide)) (hU2.n (gne_c hM_0 hM_2 (by decide)) hM_0)) hU4.1 (by decide)) (hU4.n (gne_c (hU2.n (gne_c hM_0 hM_2 (by decide)) hM_0) hU2.1 (by decide)) (hU2.n (gne_c hM_0 hM_2 (by decide)) hM_0)))
  have hH8 := (hU6.n (gne_ao (hU4.n (gne_ao (hU2.n (gne_ao hM_1 hM_2) hM_1) hU2.1) (hU2.n (gne_ao hM_1 hM_2) hM_1)) hU4.1) (hU4.n (gne_ao (hU2.n (gne_ao hM_1 hM_2) hM_1) hU2.1) (hU2.n (gne_ao hM_1 hM_2) hM_1)))
  refine g_aload_n hC dJ37_init_25 0 rfl gRef_r 26 rfl ?_
  refine g_aload_n hC dJ37_init_26 1 rfl gRef_r 27 rfl ?_
  refine g_get (v := .int (nI h)) hC cI22 hH7 1 (Nat.le_of_ble_eq_true rfl) q316 rfl dJ37_init_27 30 rfl ?_
  refine g_put hC cI23 hU6.1 0 (Nat.le_of_ble_eq_true rfl) q2417 rfl rfl rfl (Nat.le_of_ble_eq_true rfl) dJ37_init_30 (fs' := [.int (nI h), .int (nI L.length), .int (-1), .ref d]) rfl 33 rfl (fun M9 hU10 => ?_)
  exact g_vret hC (fun k9 hk9 => ⟨(by rw [hU10.1, show (h + 0) % 8 = h by omega, Nat.sub_zero]), ((((gFr.refl.up hU2 hM_2 (by simp)).up hU4 hU2.1 (by simp)).up hU6 hU4.1 (by simp)).up hU10 hU6.1 (by simp)), (by first | exact Nat.le_zero.mp hk9 | omega)⟩) dJ37_init_33 (Nat.le_of_ble_eq_true rfl) (Nat.le_of_ble_eq_true rfl)
set_option maxHeartbeats 4000000 in
theorem met_DQ_iterator (l : Launch) (G : gG) (M : gM) (d : Nat) (dq : Nat) (t0 : Nat × Nat) (t1 : Nat × Nat) (h : Nat) (L : List pqE) (hh : h < 8) (hL : L.length ≤ 6) (hM_0 : M d = some (t0, .inr (22, [.ref dq, .int (nI h), .int (nI ((h + L.length) % 8))]))) (hM_1 : M dq = some (t1, .inl (gcs G 3, 8, .inr (.inr (.inr (.inr (dqA h L))))))) : Met l yJ7_iterator (ws_ yJ7_iterator cJ7_iterator 1 (some (.object "java/util/Iterator"))) ({ frames := 3, cells := 1, slots := 4, locals := 63 }) (gPc G [.ref d] M) (gQq G (fun r9 M9 k9 => ∃ it : Nat, r9 = (some it) ∧ M9 it = some ((9, 0), .inr (23, [.int (nI ((h + 0) % 8)), .int (nI (L.length - 0)), .int (-1), .ref d])) ∧ gFr (gL []) M M9 ∧ k9 ≤ 1)) 1 4 (gA G) := by
  refine gMet [(0, .ref d)] (by decide) (Nat.le_of_ble_eq_true rfl) rfl ?_
  intro p e s m below meth c hC
  refine g_new hC cI23 q2410 q2411 q158 df23 (9, 0) (Nat.le_of_ble_eq_true rfl) (Nat.le_of_ble_eq_true rfl) 1 (Nat.le_of_ble_eq_true rfl) 4 (Nat.le_of_ble_eq_true rfl) dJ7_iterator_0 3 rfl (fun a1 M2 hN3 => ?_)
  refine g_dup hC dJ7_iterator_3 rfl 4 rfl ?_
  refine g_aload_n hC dJ7_iterator_4 0 rfl gRef_r 5 rfl ?_
  refine g_callv (g_I (As := [.ref d]) (rest := [.ref a1]) hC miJ37_init q2412 (met_DQi_init l G M2 d dq t0 t1 h L a1 hh hL (hN3.n hM_0) (hN3.n hM_1) hN3.2.1) ⟨rfl, rfl⟩ ⟨(Nat.le_of_ble_eq_true rfl), (Nat.le_of_ble_eq_true rfl)⟩ rfl (Nat.le_of_ble_eq_true rfl) dJ7_iterator_5 rfl ⟨(Nat.le_of_ble_eq_true rfl), (Nat.le_of_ble_eq_true rfl)⟩) 1 (Nat.le_of_ble_eq_true rfl) 4 (Nat.le_of_ble_eq_true rfl) 8 rfl (fun M4 k5 hp6 => ?_)
  obtain ⟨hc8, hF9, hk10⟩ := hp6
  exact g_aret (v := some a1) hC (by first | exact Or.inl ⟨_, rfl⟩ | exact Or.inr ⟨_, rfl⟩) (fun k9 hk9 => ⟨a1, rfl, (by rw [hc8]; all_goals (first | rfl | (simp only [if_true, if_false, true_and, and_true, false_and, and_false, true_or, or_true, false_or, or_false, not_true_eq_false, not_false_eq_true, reduceIte, decide_true, decide_false, Bool.false_eq_true]; done) | (simp only [if_true, if_false, true_and, and_true, false_and, and_false, true_or, or_true, false_or, or_false, not_true_eq_false, not_false_eq_true, reduceIte, decide_true, decide_false, Bool.false_eq_true]; rfl) | (simp only [if_true, if_false, true_and, and_true, false_and, and_false, true_or, or_true, false_or, or_false, not_true_eq_false, not_false_eq_true, reduceIte, decide_true, decide_false, Bool.false_eq_true]; done) | (simp only []; simp only [if_true, if_false, true_and, and_true, false_and, and_false, true_or, or_true, false_or, or_false, not_true_eq_false, not_false_eq_true, reduceIte, decide_true, decide_false, Bool.false_eq_true]; done) | (simp only []; simp only [if_true, if_false, true_and, and_true, false_and, and_false, true_or, or_true, false_or, or_false, not_true_eq_false, not_false_eq_true, reduceIte, decide_true, decide_false, Bool.false_eq_true]; done) | (simp only []; simp only [if_true, if_false, true_and, and_true, false_and, and_false, true_or, or_true, false_or, or_false, not_true_eq_false, not_false_eq_true, reduceIte, decide_true, decide_false, Bool.false_eq_true]; simp only []; done) | (simp only [if_true, if_false, true_and, and_true, false_and, and_false, true_or, or_true, false_or, or_false, not_true_eq_false, not_false_eq_true, reduceIte, decide_true, decide_false, Bool.false_eq_true]; rfl) | (simp only []; simp only [if_true, if_false, true_and, and_true, false_and, and_false, true_or, or_true, false_or, or_false, not_true_eq_false, not_false_eq_true, reduceIte, decide_true, decide_false, Bool.false_eq_true]; rfl) | (simp only []; rfl) | (simp only [if_true, if_false, true_and, and_true, false_and, and_false, true_or, or_true, false_or, or_false, not_true_eq_false, not_false_eq_true, reduceIte, decide_true, decide_false, Bool.false_eq_true]; rfl) | (simp_all []; done))), ((gFr.refl.nw hN3).trf hF9 (fun b t e hb hn => (gno (hN3.ne (gFr.refl b t e hb hn)) gno0))), (by first | exact Nat.le_zero.mp hk9 | omega)⟩) dJ7_iterator_8 (Nat.le_of_ble_eq_true rfl) (Nat.le_of_ble_eq_true rfl)
set_option maxHeartbeats 4000000 in
theorem met_DQi_hasNext (l : Launch) (G : gG) (M : gM) (d : Nat) (dq : Nat) (t0 : Nat × Nat) (t1 : Nat × Nat) (h : Nat) (L : List pqE) (it : Nat) (i : Nat) (lr : Int32) (hh : h < 8) (hL : L.length ≤ 6) (hM_0 : M it = some ((9, 0), .inr (23, [.int (nI ((h + i) % 8)), .int (nI (L.length - i)), .int lr, .ref d]))) : Met l yJ37_hasNext (ws_ yJ37_hasNext cJ37_hasNext 1 (some .boolean)) ({ frames := 0, cells := 0, slots := 0, locals := 0 }) (gPc G [.ref it] M) (gQi G (fun r9 M9 k9 => r9 = (bI (decide (i < L.length))) ∧ M9 = M ∧ k9 = 0)) 0 0 (gA G) := by
  refine gMet [(0, .ref it)] (by decide) (Nat.le_of_ble_eq_true rfl) rfl ?_
  intro p e s m below meth c hC
  refine g_aload_n hC dJ37_hasNext_0 0 rfl gRef_r 1 rfl ?_
  refine g_get (v := .int (nI (L.length - i))) hC cI23 hM_0 1 (Nat.le_of_ble_eq_true rfl) q2418 rfl dJ37_hasNext_1 4 rfl ?_
  refine g_if_le hC dJ37_hasNext_4 11 rfl 7 rfl (fun c_1 => ?_) (fun c_1 => ?_)
  · replace c_1 : (L.length - i) ≤ 0 := nn_le (by omega) (by omega) c_1
    refine g_iconst hC dJ37_hasNext_11 ki_0 12 rfl ?_
    exact g_zret (v := 0) hC (by decide) (fun k9 hk9 => ⟨(bI_nd (by omega)), rfl, Nat.le_zero.mp hk9⟩) dJ37_hasNext_12 (Nat.le_of_ble_eq_true rfl) (Nat.le_of_ble_eq_true rfl)
  · replace c_1 : 0 < (L.length - i) := nn_nle (by omega) (by omega) c_1
    refine g_iconst hC dJ37_hasNext_7 ki_1 8 rfl ?_
    refine g_goto hC dJ37_hasNext_8 12 rfl ?_
    exact g_zret (v := 1) hC (by decide) (fun k9 hk9 => ⟨(bI_d (by omega)), rfl, Nat.le_zero.mp hk9⟩) dJ37_hasNext_12 (Nat.le_of_ble_eq_true rfl) (Nat.le_of_ble_eq_true rfl)
set_option maxHeartbeats 4000000 in
theorem met_DQi_next (l : Launch) (G : gG) (M : gM) (d : Nat) (dq : Nat) (t0 : Nat × Nat) (t1 : Nat × Nat) (h : Nat) (L : List pqE) (it : Nat) (i : Nat) (lr : Int32) (e9 : pqE) (hh : h < 8) (hL : L.length ≤ 6) (he : L[i]? = some e9) (hM_0 : M it = some ((9, 0), .inr (23, [.int (nI ((h + i) % 8)), .int (nI (L.length - i)), .int lr, .ref d]))) (hM_1 : M d = some (t0, .inr (22, [.ref dq, .int (nI h), .int (nI ((h + L.length) % 8))]))) (hM_2 : M dq = some (t1, .inl (gcs G 3, 8, .inr (.inr (.inr (.inr (dqA h L))))))) : Met l yJ37_next (ws_ yJ37_next cJ37_next 3 (some (.object "java/lang/Object"))) ({ frames := 1, cells := 0, slots := 0, locals := 22 }) (gPc G [.ref it] M) (gQq G (fun r9 M9 k9 => r9 = (some e9.1) ∧ M9 it = some ((9, 0), .inr (23, [.int (nI ((h + (i + 1)) % 8)), .int (nI (L.length - (i + 1))), .int (nI ((h + i) % 8)), .ref d])) ∧ gFr (gL [it]) M M9 ∧ k9 = 0)) 0 0 (gA G) := by
  refine gMet [(0, .ref it)] (by decide) (Nat.le_of_ble_eq_true rfl) rfl ?_
  intro p e s m below meth c hC
  have hq : dqA h L ((h + i) % 8) = some e9.1 := dqA_get hh (by omega) he
  have hil : i < L.length := (List.getElem?_eq_some_iff.mp he).1
  refine g_aload_n hC dJ37_next_0 0 rfl gRef_r 1 rfl ?_
  refine g_get (v := .int (nI (L.length - i))) hC cI23 hM_0 1 (Nat.le_of_ble_eq_true rfl) q2418 rfl dJ37_next_1 4 rfl ?_
  refine g_if_gt hC dJ37_next_4 15 rfl 7 rfl (fun c_1 => ?_) (fun c_1 => ?_)
  · replace c_1 : 0 < (L.length - i) := nn_lt (by omega) (by omega) c_1
    refine g_aload_n hC dJ37_next_15 0 rfl gRef_r 16 rfl ?_
    refine g_get (v := .ref d) hC cI23 hM_0 3 (Nat.le_of_ble_eq_true rfl) q2420 rfl dJ37_next_16 19 rfl ?_
    refine g_get (v := .ref dq) hC cI22 hM_1 0 (Nat.le_of_ble_eq_true rfl) q315 rfl dJ37_next_19 22 rfl ?_
    refine g_astore_n hC dJ37_next_22 rfl gRef_r (Nat.le_of_ble_eq_true rfl) [(1, .ref dq), (0, .ref it)] rfl 23 rfl ?_
    refine g_aload_n hC dJ37_next_23 0 rfl gRef_r 24 rfl ?_
    refine g_aload_n hC dJ37_next_24 1 rfl gRef_r 25 rfl ?_
    refine g_get (v := .int (nI ((h + i) % 8))) hC cI23 hM_0 0 (Nat.le_of_ble_eq_true rfl) q2417 rfl dJ37_next_25 28 rfl ?_
    refine g_callqP (g_S (As := [.ref dq, .int (nI ((h + i) % 8))]) (rest := []) hC msJ7_nonNullElementAt q1687 (met_DQ_nonNull l G M dq t1 (dqA h L) ((h + i) % 8) e9.1 (by first | assumption | decide | omega | (dsimp only; omega) | simp_all) hq hM_2) ⟨rfl, rfl⟩ ⟨(Nat.le_of_ble_eq_true rfl), (Nat.le_of_ble_eq_true rfl)⟩ rfl (Nat.le_of_ble_eq_true rfl) dJ37_next_28 rfl ⟨(Nat.le_of_ble_eq_true rfl), (Nat.le_of_ble_eq_true rfl)⟩) 31 rfl 0 (Nat.le_of_ble_eq_true rfl) ?_
    refine g_astore_n hC dJ37_next_31 rfl gRef_r (Nat.le_of_ble_eq_true rfl) [(2, .ref e9.1), (1, .ref dq), (0, .ref it)] rfl 32 rfl ?_
    refine g_aload_n hC dJ37_next_32 2 rfl gRef_r 33 rfl ?_
    refine g_aload_n hC dJ37_next_33 2 rfl gRef_r 34 rfl ?_
    refine g_aload_n hC dJ37_next_34 2 rfl gRef_r 35 rfl ?_
    refine g_get (v := .int (nI ((h + i) % 8))) hC cI23 hM_0 0 (Nat.le_of_ble_eq_true rfl) q2417 rfl dJ37_next_35 38 rfl ?_
    refine g_dup_x1 hC dJ37_next_38 rfl rfl 39 rfl ?_
    refine g_put hC cI23 hM_0 2 (Nat.le_of_ble_eq_true rfl) q2419 rfl rfl rfl (Nat.le_of_ble_eq_true rfl) dJ37_next_39 (fs' := [.int (nI ((h + i) % 8)), .int (nI (L.length - i)), .int (nI ((h + i) % 8)), .ref d]) rfl 42 rfl (fun M2 hU3 => ?_)
    refine g_aload_n hC dJ37_next_42 1 rfl gRef_r 43 rfl ?_
    refine g_alen (v := nI 8) hC (hU3.n (gne_ao hM_2 hM_0) hM_2) 3 rfl rfl dJ37_next_43 44 rfl ?_
    refine g_calliP (g_S (As := [.int (nI ((h + i) % 8)), .int (nI 8)]) (rest := [.ref it]) hC msJ7_inc q1690 (met_DQ_inc l G M2 ((h + i) % 8) (by first | assumption | decide | omega | (dsimp only; omega) | simp_all)) ⟨rfl, rfl⟩ ⟨(Nat.le_of_ble_eq_true rfl), (Nat.le_of_ble_eq_true rfl)⟩ rfl (Nat.le_of_ble_eq_true rfl) dJ37_next_44 rfl ⟨(Nat.le_of_ble_eq_true rfl), (Nat.le_of_ble_eq_true rfl)⟩) 47 rfl 0 (Nat.le_of_ble_eq_true rfl) ?_
    refine g_put hC cI23 hU3.1 0 (Nat.le_of_ble_eq_true rfl) q2417 rfl rfl rfl (Nat.le_of_ble_eq_true rfl) dJ37_next_47 (fs' := [.int (nI ((((h + i) % 8) + 1) % 8)), .int (nI (L.length - i)), .int (nI ((h + i) % 8)), .ref d]) rfl 50 rfl (fun M4 hU5 => ?_)
    refine g_aload_n hC dJ37_next_50 2 rfl gRef_r 51 rfl ?_
    refine g_dup hC dJ37_next_51 rfl 52 rfl ?_
    refine g_get (v := .int (nI (L.length - i))) hC cI23 hU5.1 1 (Nat.le_of_ble_eq_true rfl) q2418 rfl dJ37_next_52 55 rfl ?_
    refine g_iconst hC dJ37_next_55 ki_1 56 rfl ?_
    refine g_isub hC dJ37_next_56 57 rfl ?_
    refine g_topi (y := nI (L.length - i - 1)) (nI_s (a := L.length - i) (b := 1) (by omega)) ?_
    refine g_put hC cI23 hU5.1 1 (Nat.le_of_ble_eq_true rfl) q2418 rfl rfl rfl (Nat.le_of_ble_eq_true rfl) dJ37_next_57 (fs' := [.int (nI ((((h + i) % 8) + 1) % 8)), .int (nI (L.length - i - 1)), .int (nI ((h + i) % 8)), .ref d]) rfl 60 rfl (fun M6 hU7 => ?_)
    have hH8 := (hU7.n (gne_c (hU5.n (gne_c (hU3.n (gne_c hM_1 hM_0 (by decide)) hM_1) hU3.1 (by decide)) (hU3.n (gne_c hM_1 hM_0 (by decide)) hM_1)) hU5.1 (by decide)) (hU5.n (gne_c (hU3.n (gne_c hM_1 hM_0 (by decide)) hM_1) hU3.1 (by decide)) (hU3.n (gne_c hM_1 hM_0 (by decide)) hM_1)))
    have hH9 := (hU7.n (gne_ao (hU5.n (gne_ao (hU3.n (gne_ao hM_2 hM_0) hM_2) hU3.1) (hU3.n (gne_ao hM_2 hM_0) hM_2)) hU5.1) (hU5.n (gne_ao (hU3.n (gne_ao hM_2 hM_0) hM_2) hU3.1) (hU3.n (gne_ao hM_2 hM_0) hM_2)))
    refine g_aload_n hC dJ37_next_60 0 rfl gRef_r 61 rfl ?_
    exact g_aret (v := some e9.1) hC (by first | exact Or.inl ⟨_, rfl⟩ | exact Or.inr ⟨_, rfl⟩) (fun k9 hk9 => ⟨rfl, (by rw [hU7.1, show ((h + i) % 8 + 1) % 8 = (h + (i + 1)) % 8 by omega, show L.length - i - 1 = L.length - (i + 1) by omega]), (((gFr.refl.up hU3 hM_0 (by simp)).up hU5 hU3.1 (by simp)).up hU7 hU5.1 (by simp)), (by first | exact Nat.le_zero.mp hk9 | omega)⟩) dJ37_next_61 (Nat.le_of_ble_eq_true rfl) (Nat.le_of_ble_eq_true rfl)
  · replace c_1 : (L.length - i) ≤ 0 := nn_nlt (by omega) (by omega) c_1
    exact absurd c_1 (by omega)
