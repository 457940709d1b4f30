/-! messages: blocking, interference, response -/
set_option maxRecDepth 100000
def kO (M : gM) (G : gG) (x : Option (Int32 × Nat)) (o : Option Nat) : Prop := (∀ e, x = some e → ∃ a, o = some a ∧ bxP M G a e.1) ∧ (x = none → o = none)
theorem kO.fr {M M' : gM} {G : gG} {x : Option (Int32 × Nat)} {o : Option Nat} (h : kO M G x o) (hF : gFr (gT (fun t => ¬ tg0 t)) M M') : kO M' G x o :=
  ⟨fun e he => by obtain ⟨a, h1, h2⟩ := h.1 e he; exact ⟨a, h1, bxP.fr h2 hF⟩, h.2⟩
theorem kO.n {M : gM} {G : gG} {x : Option (Int32 × Nat)} (h : kO M G x none) : x = none := by
  cases x with
  | none => rfl
  | some e => obtain ⟨a, h1, -⟩ := h.1 e rfl; cases h1
theorem kO.s {M : gM} {G : gG} {x : Option (Int32 × Nat)} {a : Nat} (h : kO M G x (some a)) : ∃ e, x = some e ∧ bxP M G a e.1 := by
  cases x with
  | none => cases h.2 rfl
  | some e => obtain ⟨b, h1, h2⟩ := h.1 e rfl; cases h1; exact ⟨e, rfl, h2⟩
theorem thi_AB {A B : List (Int32 × Nat)} {x : Int32} (hA : ∀ e ∈ A, ¬ x < e.1) (hB : ∀ e ∈ B, x < e.1) : thi (A ++ B) x = B.head? := by
  unfold thi
  rw [List.find?_append, List.find?_eq_none.mpr (fun e he => by simpa using hA e he)]
  cases B with
  | nil => rfl
  | cons b B =>
    show (List.find? _ (b :: B)) = _
    rw [List.find?_cons_of_pos (by simpa using hB b (List.mem_cons_self ..))]; rfl
theorem tlo_AB {A B : List (Int32 × Nat)} {x : Int32} (hA : ∀ e ∈ A, e.1 < x) (hB : ∀ e ∈ B, ¬ e.1 < x) : tlo (A ++ B) x = A.getLast? := by
  unfold tlo
  rw [List.reverse_append, List.find?_append, List.find?_eq_none.mpr (fun e he => by simpa using hB e (List.mem_reverse.mp he)), ← List.head?_reverse]
  show A.reverse.find? _ = _
  cases h : A.reverse with
  | nil => rfl
  | cons b D =>
    rw [List.find?_cons_of_pos (by simpa using hA b (List.mem_reverse.mp (by rw [h]; exact List.mem_cons_self ..)))]; rfl
theorem hiSplit {x : Int32} : ∀ (C : List (Int32 × Nat)), srtC C → ∃ A B, C = A ++ B ∧ (∀ e ∈ A, ¬ x < e.1) ∧ ∀ e ∈ B, x < e.1
  | [], _ => ⟨[], [], rfl, fun e he => nomatch he, fun e he => nomatch he⟩
  | d :: C, h => by
    have h' := List.pairwise_cons.mp h
    by_cases q : x < d.1
    · refine ⟨[], d :: C, rfl, fun e he => nomatch he, fun e he => ?_⟩
      rcases List.mem_cons.mp he with z | z
      · rw [z]; exact q
      · exact Int32.lt_trans q (h'.1 e z)
    · obtain ⟨A, B, h1, h2, h3⟩ := hiSplit C h'.2
      refine ⟨d :: A, B, by rw [h1]; rfl, fun e he => ?_, h3⟩
      rcases List.mem_cons.mp he with z | z
      · rw [z]; exact q
      · exact h2 e z
theorem loSplit {x : Int32} : ∀ (C : List (Int32 × Nat)), srtC C → ∃ A B, C = A ++ B ∧ (∀ e ∈ A, e.1 < x) ∧ ∀ e ∈ B, ¬ e.1 < x
  | [], _ => ⟨[], [], rfl, fun e he => nomatch he, fun e he => nomatch he⟩
  | d :: C, h => by
    have h' := List.pairwise_cons.mp h
    by_cases q : d.1 < x
    · obtain ⟨A, B, h1, h2, h3⟩ := loSplit C h'.2
      refine ⟨d :: A, B, by rw [h1]; rfl, fun e he => ?_, h3⟩
      rcases List.mem_cons.mp he with z | z
      · rw [z]; exact q
      · exact h2 e z
    · refine ⟨[], d :: C, rfl, fun e he => nomatch he, fun e he => ?_⟩
      rcases List.mem_cons.mp he with z | z
      · rw [z]; exact q
      · exact fun y => q (Int32.lt_trans (h'.1 e z) y)
theorem thi_next {A B : List (Int32 × Nat)} {e : Int32 × Nat} (h : srtC (A ++ e :: B)) : thi (A ++ e :: B) e.1 = B.head? := by
  have h1 := List.pairwise_append.mp h
  have h2 := List.pairwise_cons.mp h1.2.1
  rw [show A ++ e :: B = (A ++ [e]) ++ B by simp]
  refine thi_AB (fun d hd => ?_) h2.1
  rcases List.mem_append.mp hd with z | z
  · exact fun q => i32ir _ (Int32.lt_trans q (h1.2.2 d z e (List.mem_cons_self ..)))
  · rw [List.mem_singleton.mp z]; exact i32ir _
theorem tlo_next {A B : List (Int32 × Nat)} {e : Int32 × Nat} (h : srtC (A ++ e :: B)) : tlo (A ++ e :: B) e.1 = A.getLast? := by
  have h1 := List.pairwise_append.mp h
  have h2 := List.pairwise_cons.mp h1.2.1
  refine tlo_AB (fun d hd => h1.2.2 d hd e (List.mem_cons_self ..)) (fun d hd => ?_)
  rcases List.mem_cons.mp hd with z | z
  · rw [z]; exact i32ir _
  · exact fun q => i32ir _ (Int32.lt_trans q (h2.1 d z))
theorem tget_at {C : List (Int32 × Nat)} {e : Int32 × Nat} (h : srtC C) (he : e ∈ C) : tget C e.1 = some e.2 := by
  cases q : tget C e.1 with
  | none => exact absurd rfl (tget_none q e he)
  | some m =>
    have hm := tget_some q
    obtain ⟨i, hi, r1⟩ := List.getElem_of_mem he
    obtain ⟨j, hj, r2⟩ := List.getElem_of_mem hm
    have hg := List.pairwise_iff_getElem.mp h
    have hij : i = j := by
      rcases Nat.lt_trichotomy i j with z | z | z
      · have := hg i j hi hj z; rw [r1, r2] at this; exact absurd this (i32ir _)
      · exact z
      · have := hg j i hj hi z; rw [r1, r2] at this; exact absurd this (i32ir _)
    subst hij
    rw [r1] at r2
    rw [r2]
theorem bkL_0 {x : Nat} : ∀ {l : List mE}, (∀ d ∈ l, ¬ x < d.1) → bkL x l = 0
  | [], _ => rfl
  | d :: l, h => by
    show max (bkV x d) (bkL x l) = 0
    rw [bkL_0 (fun e he => h e (List.mem_cons_of_mem _ he))]
    unfold bkV
    rw [if_neg (h d (List.mem_cons_self ..))]; rfl
theorem itL_0 {x w : Nat} : ∀ {l : List mE}, (∀ d ∈ l, ¬ d.1 < x) → itL x w l = 0
  | [], _ => rfl
  | d :: l, h => by
    show itV x w d + itL x w l = 0
    rw [itL_0 (fun e he => h e (List.mem_cons_of_mem _ he))]
    unfold itV
    rw [if_neg (h d (List.mem_cons_self ..))]
theorem maxI_n {a b : Nat} (ha : a < 2147483648) (hb : b < 2147483648) : maxI (nI a) (nI b) = nI (max a b) := by
  unfold maxI
  by_cases h : a < b
  · rw [if_pos ((nI_ltI ha hb).mpr h), show max a b = b by omega]
  · rw [if_neg (fun q => h ((nI_ltI ha hb).mp q)), show max a b = a by omega]
def mss (M : gM) (C : List (Int32 × Nat)) (md : Nat → mE) : Prop := ∀ e ∈ C, M e.2 = some ((0, 4), .inr (13, [.int (nI (wN (md e.2).2.1)), .int (nI (md e.2).2.2.1), .int (nI (md e.2).2.2.2)]))
theorem mss.fr {M M' : gM} {C : List (Int32 × Nat)} {md : Nat → mE} (h : mss M C md) (hF : gFr (gT (fun t => ¬ tgE 0 4 t)) M M') : mss M' C md := fun e he => hF _ _ _ (h e he) (fun q => q ⟨rfl, rfl⟩)
abbrev mOk (C : List (Int32 × Nat)) (md : Nat → mE) : Prop := srtC C ∧ C.length ≤ 8 ∧ (∀ e ∈ C, e.1 = nI (md e.2).1) ∧ okML (C.map (fun e => md e.2))
theorem mOk.at {C : List (Int32 × Nat)} {md : Nat → mE} (h : mOk C md) {e : Int32 × Nat} (he : e ∈ C) : (md e.2).1 ≤ 2047 ∧ (md e.2).2.1 ≤ 4 ∧ 1 ≤ (md e.2).2.2.1 ∧ (md e.2).2.2.1 ≤ 5000 ∧ (md e.2).2.2.2 ≤ 500 ∧ wN (md e.2).2.1 ≤ 95 ∧ e.1 = nI (md e.2).1 := by
  have h1 := h.2.2.2 _ (List.mem_map.mpr ⟨e, he, rfl⟩)
  exact ⟨h1.1, h1.2.1, h1.2.2.1, h1.2.2.2.1, h1.2.2.2.2, wN_le h1.2.1, h.2.2.1 e he⟩
set_option maxHeartbeats 4000000 in
theorem met_TMap_higherKeyK (l : Launch) (G : gG) (M : gM) (mp : Nat) (t0 : Nat × Nat) (t1 : Nat × Nat) (C : List (Int32 × Nat)) (k0 : Nat) (k : Int32)   (hP_0 : isTM M G t0 t1 mp C) (hP_1 : bxP M G k0 k) : Met l yJ9_higherKey (ws_ yJ9_higherKey cJ9_higherKey 2 (some (.object "java/lang/Object"))) ({ frames := 5, cells := 0, slots := 0, locals := 112 }) (gPc G [.ref mp, .ref k0] M) (gQq G (fun r9 M9 k9 => ∃ o9 : Option Nat, r9 = o9 ∧ kO M9 G (thi C k) o9 ∧ gFr (gL []) M M9 ∧ k9 = 0)) 0 0 (gA G) := by
  refine gMono_q (met_TMap_higherKey l G M mp t0 t1 C k0 k hP_0 hP_1) ?_
  intro r9 M9 k9 ⟨o9, e1, hF, p1, p2, hk⟩
  exact ⟨o9, e1, ⟨p1, p2⟩, hF, hk⟩
set_option maxHeartbeats 4000000 in
theorem met_TMap_lowerKeyK (l : Launch) (G : gG) (M : gM) (mp : Nat) (t0 : Nat × Nat) (t1 : Nat × Nat) (C : List (Int32 × Nat)) (k0 : Nat) (k : Int32)   (hP_0 : isTM M G t0 t1 mp C) (hP_1 : bxP M G k0 k) : Met l yJ9_lowerKey (ws_ yJ9_lowerKey cJ9_lowerKey 2 (some (.object "java/lang/Object"))) ({ frames := 5, cells := 0, slots := 0, locals := 112 }) (gPc G [.ref mp, .ref k0] M) (gQq G (fun r9 M9 k9 => ∃ o9 : Option Nat, r9 = o9 ∧ kO M9 G (tlo C k) o9 ∧ gFr (gL []) M M9 ∧ k9 = 0)) 0 0 (gA G) := by
  refine gMono_q (met_TMap_lowerKey l G M mp t0 t1 C k0 k hP_0 hP_1) ?_
  intro r9 M9 k9 ⟨o9, e1, hF, p1, p2, hk⟩
  exact ⟨o9, e1, ⟨p1, p2⟩, hF, hk⟩
set_option maxHeartbeats 4000000 in
theorem met_Mg_init (l : Launch) (G : gG) (M : gM) (h : Nat) (t : Nat × Nat) (b : Int32) (p9 : Int32) (j : Int32)  (hM_0 : M h = some (t, .inr (13, [.int 0, .int 0, .int 0]))) : Met l yX17_init (ws_ yX17_init cX17_init 4 none) ({ frames := 1, cells := 0, slots := 0, locals := 12 }) (gPc G [.ref h, .int b, .int p9, .int j] M) (gQv G (fun M9 k9 => M9 h = some (t, .inr (13, [.int b, .int p9, .int j])) ∧ gFr (gL [h]) M M9 ∧ k9 = 0)) 0 0 (gA G) := by
  refine gMet [(0, .ref h), (1, .int b), (2, .int p9), (3, .int j)] (by decide) (Nat.le_of_ble_eq_true rfl) rfl ?_
  intro p e s m below meth c hC
  refine g_aload_n hC dX17_init_0 0 rfl gRef_r 1 rfl ?_
  refine g_objInit hC q2634 q176 q177 dX17_init_1 (Nat.le_of_ble_eq_true rfl) (Nat.le_of_ble_eq_true rfl) 4 rfl ?_
  refine g_aload_n hC dX17_init_4 0 rfl gRef_r 5 rfl ?_
  refine g_iload_n hC dX17_init_5 1 rfl 6 rfl ?_
  refine g_putF hC cI13 hM_0 0 (Nat.le_of_ble_eq_true rfl) q2635 rfl rfl rfl rfl (Nat.le_of_ble_eq_true rfl) dX17_init_6 (fs' := [.int b, .int 0, .int 0]) rfl 9 rfl (fun M1 hU2 => ?_)
  refine g_aload_n hC dX17_init_9 0 rfl gRef_r 10 rfl ?_
  refine g_iload_n hC dX17_init_10 2 rfl 11 rfl ?_
  refine g_putF hC cI13 hU2.1 1 (Nat.le_of_ble_eq_true rfl) q2637 rfl rfl rfl rfl (Nat.le_of_ble_eq_true rfl) dX17_init_11 (fs' := [.int b, .int p9, .int 0]) rfl 14 rfl (fun M3 hU4 => ?_)
  refine g_aload_n hC dX17_init_14 0 rfl gRef_r 15 rfl ?_
  refine g_iload_n hC dX17_init_15 3 rfl 16 rfl ?_
  refine g_putF hC cI13 hU4.1 2 (Nat.le_of_ble_eq_true rfl) q2639 rfl rfl rfl rfl (Nat.le_of_ble_eq_true rfl) dX17_init_16 (fs' := [.int b, .int p9, .int j]) rfl 19 rfl (fun M5 hU6 => ?_)
  exact g_vret hC (fun k9 hk9 => ⟨hU6.1, (((gFr.refl.up hU2 hM_0 (by simp)).up hU4 hU2.1 (by simp)).up hU6 hU4.1 (by simp)), (by first | exact Nat.le_zero.mp hk9 | omega)⟩) dX17_init_19 (Nat.le_of_ble_eq_true rfl) (Nat.le_of_ble_eq_true rfl)
set_option maxHeartbeats 4000000 in
theorem met_Mg_demand (l : Launch) (G : gG) (M : gM) (h : Nat) (t : Nat × Nat) (b : Nat) (pe : Nat) (j : Nat) (w : Nat) (hb : b ≤ 95) (hp : 1 ≤ pe ∧ pe ≤ 5000) (hj : j ≤ 500) (hw : w ≤ 5000) (hM_0 : M h = some (t, .inr (13, [.int (nI b), .int (nI pe), .int (nI j)]))) : Met l yX17_demand (ws_ yX17_demand cX17_demand 2 (some .int)) ({ frames := 0, cells := 0, slots := 0, locals := 0 }) (gPc G [.ref h, .int (nI w)] M) (gQi G (fun r9 M9 k9 => r9 = (nI (dmd b w j pe)) ∧ M9 = M ∧ k9 = 0)) 0 0 (gA G) := by
  refine gMet [(0, .ref h), (1, .int (nI w))] (by decide) (Nat.le_of_ble_eq_true rfl) rfl ?_
  intro p e s m below meth c hC
  have hq9 := quo_le hw hj hp.1 hp.2
  have hq8 := Nat.mul_le_mul hb hq9
  refine g_aload_n hC dX17_demand_0 0 rfl gRef_r 1 rfl ?_
  refine g_get (v := .int (nI b)) hC cI13 hM_0 0 (Nat.le_of_ble_eq_true rfl) q2635 rfl dX17_demand_1 4 rfl ?_
  refine g_iload_n hC dX17_demand_4 1 rfl 5 rfl ?_
  refine g_aload_n hC dX17_demand_5 0 rfl gRef_r 6 rfl ?_
  refine g_get (v := .int (nI j)) hC cI13 hM_0 2 (Nat.le_of_ble_eq_true rfl) q2639 rfl dX17_demand_6 9 rfl ?_
  refine g_iadd hC dX17_demand_9 10 rfl ?_
  refine g_topi (y := nI (w + j)) (nI_a (a := w) (b := j) (c := (w + j)) (by omega)) ?_
  refine g_aload_n hC dX17_demand_10 0 rfl gRef_r 11 rfl ?_
  refine g_get (v := .int (nI pe)) hC cI13 hM_0 1 (Nat.le_of_ble_eq_true rfl) q2637 rfl dX17_demand_11 14 rfl ?_
  refine g_iadd hC dX17_demand_14 15 rfl ?_
  refine g_topi (y := nI (w + j + pe)) (nI_a (a := (w + j)) (b := pe) (c := (w + j + pe)) (by omega)) ?_
  refine g_aload_n hC dX17_demand_15 0 rfl gRef_r 16 rfl ?_
  refine g_get (v := .int (nI pe)) hC cI13 hM_0 1 (Nat.le_of_ble_eq_true rfl) q2637 rfl dX17_demand_16 19 rfl ?_
  refine g_idiv hC dX17_demand_19 (nI_nz (by omega) (by omega)) 20 rfl ?_
  obtain ⟨d1, ed2⟩ : ∃ z9, z9 = (w + j + pe) / pe := ⟨_, rfl⟩
  refine g_topi (y := nI d1) ((pk_div (a := (w + j + pe)) (d := pe) (by omega) (by omega) (by omega)).trans (congrArg nI ed2.symm)) ?_
  refine g_imul hC dX17_demand_20 21 rfl ?_
  obtain ⟨d3, ed4⟩ : ∃ z9, z9 = b * d1 := ⟨_, rfl⟩
  refine g_topi (y := nI d3) (nI_m ed4.symm) ?_
  exact g_iret (v := nI d3) hC (fun k9 hk9 => ⟨(by simp only [dmd, ed2, ed4]), rfl, Nat.le_zero.mp hk9⟩) dX17_demand_21 (Nat.le_of_ble_eq_true rfl) (Nat.le_of_ble_eq_true rfl)
theorem kO.of {s : State} {G : gG} {M : gM} {x : Option (Int32 × Nat)} {o : Option Nat} (hK : gK G s) (h : kO M G x o) : ∀ a, o = some a → gOf G s M "java/lang/Integer" a := fun a ha => by
  subst ha
  obtain ⟨e, -, h2⟩ := kO.s h
  exact gOf.box hK h2
set_option maxHeartbeats 4000000 in
theorem met_Ms_blocking (l : Launch) (G : gG) (M : gM) (ms : Nat) (an : Nat) (C : List (Int32 × Nat)) (md : Nat → mE) (x : Nat) (hmo : mOk C md) (hx : x ≤ 2047) (hM_0 : M ms = some ((8, 2), .inr (6, [.ref an]))) (hP_0 : isTM M G (8, 3) (8, 4) an C) (hP_1 : mss M C md) : Met l yX7_blocking (ws_ yX7_blocking cX7_blocking 4 (some .int)) ({ frames := 6, cells := 1, slots := 1, locals := 136 }) (gPc G [.ref ms, .int (nI x)] M) (gQi G (fun r9 M9 k9 => r9 = (nI (bkL x (C.map (fun e => md e.2)))) ∧ gFr (gL []) M M9 ∧ k9 ≤ 1)) 1 1 (gA G) := by
  refine gMet [(0, .ref ms), (1, .int (nI x))] (by decide) (Nat.le_of_ble_eq_true rfl) rfl ?_
  intro p e s m below meth c hC
  refine g_iconst hC dX7_blocking_0 ki_0 1 rfl ?_
  refine g_istore_n hC dX7_blocking_1 rfl (Nat.le_of_ble_eq_true rfl) [(2, .int 0), (0, .ref ms), (1, .int (nI x))] rfl 2 rfl ?_
  refine g_aload_n hC dX7_blocking_2 1 rfl gRef_r 3 rfl ?_
  refine g_get (v := .ref an) hC cI6 hM_0 0 (Nat.le_of_ble_eq_true rfl) q512 rfl dX7_blocking_3 6 rfl ?_
  refine g_iload_n hC dX7_blocking_6 2 rfl 7 rfl ?_
  refine g_callq (g_S (As := [.int (nI x)]) (rest := [.ref an]) hC msJ11_valueOf q2660 (met_valueOf l G M (nI x)) ⟨rfl, rfl⟩ ⟨(Nat.le_of_ble_eq_true rfl), (Nat.le_of_ble_eq_true rfl)⟩ rfl (Nat.le_of_ble_eq_true rfl) dX7_blocking_7 rfl ⟨(Nat.le_of_ble_eq_true rfl), (Nat.le_of_ble_eq_true rfl)⟩) 1 (Nat.le_of_ble_eq_true rfl) 1 (Nat.le_of_ble_eq_true rfl) 10 rfl (fun r4 M1 k2 hp3 => ?_)
  obtain ⟨a_5, rfl, hF6, hq7, hk8⟩ := hp3
  refine g_callq (g_V (As := [.ref a_5]) (rest := []) hC mvJ9_higherKey q2667 (isTM.of hC.K (isTM.fr hP_0 (gFr.refl.trf hF6 (fun b t e hb hn => gno0)))) (met_TMap_higherKeyK l G M1 an (8, 3) (8, 4) C a_5 (nI x) (isTM.fr hP_0 (gFr.refl.trf hF6 (fun b t e hb hn => gno0))) hq7) ⟨rfl, rfl⟩ ⟨(Nat.le_of_ble_eq_true rfl), (Nat.le_of_ble_eq_true rfl)⟩ rfl (Nat.le_of_ble_eq_true rfl) dX7_blocking_10 rfl ⟨(Nat.le_of_ble_eq_true rfl), (Nat.le_of_ble_eq_true rfl)⟩) 1 (Nat.le_of_ble_eq_true rfl) 1 (Nat.le_of_ble_eq_true rfl) 13 rfl (fun r12 M9 k10 hp11 => ?_)
  obtain ⟨o9_13, rfl, hpd14, hF15, hk16⟩ := hp11
  refine g_castQS hC (hC.at cI28) (kO.of hC.K hpd14) q2678 dX7_blocking_13 16 rfl ?_
  obtain ⟨A0, B0, hab0, hA0, hB0⟩ := hiSplit (x := nI x) C hmo.1
  have hk17 := hpd14
  rw [show thi C (nI x) = B0.head? by rw [hab0]; exact thi_AB hA0 hB0] at hk17
  refine g_astore_n hC dX7_blocking_16 rfl gRef_q (Nat.le_of_ble_eq_true rfl) [(3, va_rf o9_13), (2, .int 0), (0, .ref ms), (1, .int (nI x))] rfl 17 rfl ?_
  have loop17 : ∀ (n9 : Nat) (A : List (Int32 × Nat)) (B : List (Int32 × Nat)) (mo : Nat) (o : Option Nat) (ML : gM), (hab : C = A ++ B) → (hB : ∀ e ∈ B, nI x < e.1) → (hm : mo = bkL x (A.map (fun e => md e.2))) → (hm5 : mo ≤ 95) → B.length < n9 → (ML ms = some ((8, 2), .inr (6, [.ref an]))) → (isTM ML G (8, 3) (8, 4) an C) → (mss ML C md) → (kO ML G (B.head?) o) → gFr (gL []) M ML → gJ p l e ({ frames := 6, cells := 1, slots := 1, locals := 136 } : Room) s m ([.ref ms, .int (nI x)] : List Value).toArray below meth c G 4 (MQ below (gQi G (fun r9 M9 k9 => r9 = (nI (bkL x (C.map (fun e => md e.2)))) ∧ gFr (gL []) M M9 ∧ k9 ≤ 1)) ([.ref ms, .int (nI x)] : List Value).toArray s 1 1 (gA G)) 1 1 ML 17 [(0, .ref ms), (1, .int (nI x)), (2, .int (nI mo)), (3, va_rf o)] [] := by
    intro n9
    induction n9 with
    | zero => intro A B mo o ML hab hB hm hm5 hmu; exact absurd hmu (Nat.not_lt_zero _)
    | succ n9 ih =>
      intro A B mo o ML hab hB hm hm5 hmu hL_0 hLp_0 hLp_1 hLp_2 hLF
      refine g_aload_n hC dX7_blocking_17 3 rfl gRef_q 18 rfl ?_
      refine g_ifnull hC dX7_blocking_18 55 rfl 21 rfl (fun e_19 => ?_) (fun x_18 e_19 => ?_)
      · subst e_19
        have hnil := kO.n hLp_2
        refine g_iload_n hC dX7_blocking_55 2 rfl 56 rfl ?_
        exact g_iret (v := nI mo) hC (fun k9 hk9 => ⟨(by have hB9 : B = [] := List.head?_eq_none_iff.mp hnil; rw [hm, hab, hB9, List.append_nil]), hLF, (by first | exact Nat.le_zero.mp hk9 | omega)⟩) dX7_blocking_56 (Nat.le_of_ble_eq_true rfl) (Nat.le_of_ble_eq_true rfl)
      · subst e_19
        obtain ⟨e9, he9, hb9⟩ := kO.s hLp_2
        obtain ⟨B9, rfl⟩ : ∃ B', B = e9 :: B' := by cases B with | nil => cases he9 | cons b B' => cases he9; exact ⟨B', rfl⟩
        have hm9 : e9 ∈ C := by rw [hab]; simp
        have ha9 := hmo.at hm9
        have hkx : x < (md e9.2).1 := nn_lt (by omega) (by omega) (by rw [← ha9.2.2.2.2.2.2]; exact hB e9 (by simp))
        refine g_iload_n hC dX7_blocking_21 2 rfl 22 rfl ?_
        refine g_aload_n hC dX7_blocking_22 0 rfl gRef_r 23 rfl ?_
        refine g_get (v := .ref an) hC cI6 hL_0 0 (Nat.le_of_ble_eq_true rfl) q512 rfl dX7_blocking_23 26 rfl ?_
        refine g_aload_n hC dX7_blocking_26 3 rfl gRef_r 27 rfl ?_
        refine g_callqP (g_V (As := [.ref x_18]) (rest := [.int (nI mo)]) hC mvJ9_get q2661 (isTM.of hC.K hLp_0) (met_TMap_get l G ML an (8, 3) (8, 4) C x_18 e9.1 hLp_0 hb9) ⟨rfl, rfl⟩ ⟨(Nat.le_of_ble_eq_true rfl), (Nat.le_of_ble_eq_true rfl)⟩ rfl (Nat.le_of_ble_eq_true rfl) dX7_blocking_27 rfl ⟨(Nat.le_of_ble_eq_true rfl), (Nat.le_of_ble_eq_true rfl)⟩) 30 rfl 1 (Nat.le_of_ble_eq_true rfl) ?_
        refine g_topv (y := .ref e9.2) (congrArg va_rf (show tget C e9.1 = some e9.2 from (tget_at hmo.1 hm9))) ?_
        have hE20 := hLp_1 e9 hm9
        refine g_castS hC (hC.at cI13) (gOf.of hC.K cI13 hE20) q2662 dX7_blocking_30 33 rfl ?_
        refine g_getN (v := .int (nI (wN (md e9.2).2.1))) hC cI13 hE20 0 (Nat.le_of_ble_eq_true rfl) q2636 rfl dX7_blocking_33 36 rfl ?_
        refine g_mmax hC q2679 q1187 q128 q1188 (Nat.le_of_ble_eq_true rfl) (Nat.le_of_ble_eq_true rfl) (Nat.le_of_ble_eq_true rfl) (Nat.le_of_ble_eq_true rfl) dX7_blocking_36 39 rfl ?_
        refine g_topi (y := nI (max mo (wN (md e9.2).2.1))) (maxI_n (by omega) (by omega)) ?_
        refine g_istore_n hC dX7_blocking_39 rfl (Nat.le_of_ble_eq_true rfl) [(2, .int (nI (max mo (wN (md e9.2).2.1)))), (0, .ref ms), (1, .int (nI x)), (3, .ref x_18)] rfl 40 rfl ?_
        refine g_aload_n hC dX7_blocking_40 1 rfl gRef_r 41 rfl ?_
        refine g_get (v := .ref an) hC cI6 hL_0 0 (Nat.le_of_ble_eq_true rfl) q512 rfl dX7_blocking_41 44 rfl ?_
        refine g_aload_n hC dX7_blocking_44 3 rfl gRef_r 45 rfl ?_
        refine g_callq (g_V (As := [.ref x_18]) (rest := []) hC mvJ9_higherKey q2667 (isTM.of hC.K hLp_0) (met_TMap_higherKeyK l G ML an (8, 3) (8, 4) C x_18 e9.1 hLp_0 hb9) ⟨rfl, rfl⟩ ⟨(Nat.le_of_ble_eq_true rfl), (Nat.le_of_ble_eq_true rfl)⟩ rfl (Nat.le_of_ble_eq_true rfl) dX7_blocking_45 rfl ⟨(Nat.le_of_ble_eq_true rfl), (Nat.le_of_ble_eq_true rfl)⟩) 1 (Nat.le_of_ble_eq_true rfl) 1 (Nat.le_of_ble_eq_true rfl) 48 rfl (fun r24 M21 k22 hp23 => ?_)
        obtain ⟨o9_25, rfl, hpd26, hF27, hk28⟩ := hp23
        refine g_castQS hC (hC.at cI28) (kO.of hC.K hpd26) q2678 dX7_blocking_48 51 rfl ?_
        have hk29 := hpd26
        rw [show thi C e9.1 = B9.head? by rw [hab]; exact thi_next (hab ▸ hmo.1)] at hk29
        refine g_astore_n hC dX7_blocking_51 rfl gRef_q (Nat.le_of_ble_eq_true rfl) [(3, va_rf o9_25), (2, .int (nI (max mo (wN (md e9.2).2.1)))), (0, .ref ms), (1, .int (nI x))] rfl 52 rfl ?_
        refine g_goto hC dX7_blocking_52 17 rfl ?_
        refine gJ.sub (M' := M21) [2, 3, 1, 0] rfl ?_
        exact ih (A ++ [e9]) B9 (max mo (wN (md e9.2).2.1)) o9_25 M21 (by rw [hab]; simp) (fun e he => hB e (by simp [he])) (by rw [List.map_append, bkL_app, ← hm]; show max mo _ = max mo (max (bkV x (md e9.2)) 0); unfold bkV; rw [if_pos hkx]; omega) (by omega) (by simp only [List.length_cons] at hmu; omega) (hF27 _ _ _ hL_0 gno0) (isTM.fr hLp_0 (gFr.refl.trf hF27 (fun b t e hb hn => gno0))) (mss.fr hLp_1 (gFr.refl.trf hF27 (fun b t e hb hn => gno0))) hk29 (hLF.trans (hF27.mono (by intro b t hb; exact absurd hb List.not_mem_nil)))
  refine gJ.sub (M' := M9) [2, 3, 1, 0] rfl ?_
  exact loop17 _ A0 B0 0 o9_13 M9 hab0 hB0 (bkL_0 (fun d hd q => by obtain ⟨e, he, rfl⟩ := List.mem_map.mp hd; have hme : e ∈ C := by { rw [hab0]; exact List.mem_append.mpr (Or.inl he) }; have h9 := hmo.at hme; exact hA0 e he (by rw [h9.2.2.2.2.2.2]; exact (nI_ltI (by omega) (by omega)).mpr q))).symm (by omega) (Nat.lt_succ_self _) (hF15 _ _ _ (hF6 _ _ _ hM_0 gno0) gno0) (isTM.fr hP_0 ((gFr.refl.trf hF6 (fun b t e hb hn => gno0)).trf hF15 (fun b t e hb hn => gno0))) (mss.fr hP_1 ((gFr.refl.trf hF6 (fun b t e hb hn => gno0)).trf hF15 (fun b t e hb hn => gno0))) hk17 ((gFr.refl.trans (hF6.mono (by intro b t hb; exact absurd hb List.not_mem_nil))).trans (hF15.mono (by intro b t hb; exact absurd hb List.not_mem_nil)))
set_option maxHeartbeats 4000000 in
theorem met_Ms_interference (l : Launch) (G : gG) (M : gM) (ms : Nat) (an : Nat) (C : List (Int32 × Nat)) (md : Nat → mE) (x : Nat) (w : Nat) (hmo : mOk C md) (hx : x ≤ 2047) (hw : w ≤ 5000) (hM_0 : M ms = some ((8, 2), .inr (6, [.ref an]))) (hP_0 : isTM M G (8, 3) (8, 4) an C) (hP_1 : mss M C md) : Met l yX7_interference (ws_ yX7_interference cX7_interference 5 (some .int)) ({ frames := 6, cells := 1, slots := 1, locals := 136 }) (gPc G [.ref ms, .int (nI x), .int (nI w)] M) (gQi G (fun r9 M9 k9 => r9 = (nI (itL x w (C.map (fun e => md e.2)))) ∧ gFr (gL []) M M9 ∧ k9 ≤ 1)) 1 1 (gA G) := by
  refine gMet [(0, .ref ms), (1, .int (nI x)), (2, .int (nI w))] (by decide) (Nat.le_of_ble_eq_true rfl) rfl ?_
  intro p e s m below meth c hC
  refine g_iconst hC dX7_interference_0 ki_0 1 rfl ?_
  refine g_istore_n hC dX7_interference_1 rfl (Nat.le_of_ble_eq_true rfl) [(3, .int 0), (0, .ref ms), (1, .int (nI x)), (2, .int (nI w))] rfl 2 rfl ?_
  refine g_aload_n hC dX7_interference_2 1 rfl gRef_r 3 rfl ?_
  refine g_get (v := .ref an) hC cI6 hM_0 0 (Nat.le_of_ble_eq_true rfl) q512 rfl dX7_interference_3 6 rfl ?_
  refine g_iload_n hC dX7_interference_6 2 rfl 7 rfl ?_
  refine g_callq (g_S (As := [.int (nI x)]) (rest := [.ref an]) hC msJ11_valueOf q2660 (met_valueOf l G M (nI x)) ⟨rfl, rfl⟩ ⟨(Nat.le_of_ble_eq_true rfl), (Nat.le_of_ble_eq_true rfl)⟩ rfl (Nat.le_of_ble_eq_true rfl) dX7_interference_7 rfl ⟨(Nat.le_of_ble_eq_true rfl), (Nat.le_of_ble_eq_true rfl)⟩) 1 (Nat.le_of_ble_eq_true rfl) 1 (Nat.le_of_ble_eq_true rfl) 10 rfl (fun r4 M1 k2 hp3 => ?_)
  obtain ⟨a_5, rfl, hF6, hq7, hk8⟩ := hp3
  refine g_callq (g_V (As := [.ref a_5]) (rest := []) hC mvJ9_lowerKey q2684 (isTM.of hC.K (isTM.fr hP_0 (gFr.refl.trf hF6 (fun b t e hb hn => gno0)))) (met_TMap_lowerKeyK l G M1 an (8, 3) (8, 4) C a_5 (nI x) (isTM.fr hP_0 (gFr.refl.trf hF6 (fun b t e hb hn => gno0))) hq7) ⟨rfl, rfl⟩ ⟨(Nat.le_of_ble_eq_true rfl), (Nat.le_of_ble_eq_true rfl)⟩ rfl (Nat.le_of_ble_eq_true rfl) dX7_interference_10 rfl ⟨(Nat.le_of_ble_eq_true rfl), (Nat.le_of_ble_eq_true rfl)⟩) 1 (Nat.le_of_ble_eq_true rfl) 1 (Nat.le_of_ble_eq_true rfl) 13 rfl (fun r12 M9 k10 hp11 => ?_)
  obtain ⟨o9_13, rfl, hpd14, hF15, hk16⟩ := hp11
  refine g_castQS hC (hC.at cI28) (kO.of hC.K hpd14) q2678 dX7_interference_13 16 rfl ?_
  obtain ⟨A0, B0, hab0, hA0, hB0⟩ := loSplit (x := nI x) C hmo.1
  have hk17 := hpd14
  rw [show tlo C (nI x) = A0.getLast? by rw [hab0]; exact tlo_AB hA0 hB0] at hk17
  refine g_astore hC dX7_interference_16 gRef_q (Nat.le_of_ble_eq_true rfl) [(4, va_rf o9_13), (3, .int 0), (0, .ref ms), (1, .int (nI x)), (2, .int (nI w))] rfl 18 rfl ?_
  have loop18 : ∀ (n9 : Nat) (A : List (Int32 × Nat)) (B : List (Int32 × Nat)) (su : Nat) (o : Option Nat) (ML : gM), (hab : C = A ++ B) → (hA : ∀ e ∈ A, e.1 < nI x) → (hm : su = itL x w (B.map (fun e => md e.2))) → (hm5 : su ≤ 1000000 * B.length) → A.length < n9 → (ML ms = some ((8, 2), .inr (6, [.ref an]))) → (isTM ML G (8, 3) (8, 4) an C) → (mss ML C md) → (kO ML G (A.getLast?) o) → gFr (gL []) M ML → gJ p l e ({ frames := 6, cells := 1, slots := 1, locals := 136 } : Room) s m ([.ref ms, .int (nI x), .int (nI w)] : List Value).toArray below meth c G 5 (MQ below (gQi G (fun r9 M9 k9 => r9 = (nI (itL x w (C.map (fun e => md e.2)))) ∧ gFr (gL []) M M9 ∧ k9 ≤ 1)) ([.ref ms, .int (nI x), .int (nI w)] : List Value).toArray s 1 1 (gA G)) 1 1 ML 18 [(0, .ref ms), (1, .int (nI x)), (2, .int (nI w)), (3, .int (nI su)), (4, va_rf o)] [] := by
    intro n9
    induction n9 with
    | zero => intro A B su o ML hab hA hm hm5 hmu; exact absurd hmu (Nat.not_lt_zero _)
    | succ n9 ih =>
      intro A B su o ML hab hA hm hm5 hmu hL_0 hLp_0 hLp_1 hLp_2 hLF
      refine g_aload hC dX7_interference_18 4 rfl gRef_q 20 rfl ?_
      refine g_ifnull hC dX7_interference_20 59 rfl 23 rfl (fun e_19 => ?_) (fun x_18 e_19 => ?_)
      · subst e_19
        have hnil := kO.n hLp_2
        refine g_iload_n hC dX7_interference_59 3 rfl 60 rfl ?_
        exact g_iret (v := nI su) hC (fun k9 hk9 => ⟨(by have hA9 : A = [] := List.getLast?_eq_none_iff.mp hnil; rw [hm, hab, hA9, List.nil_append]), hLF, (by first | exact Nat.le_zero.mp hk9 | omega)⟩) dX7_interference_60 (Nat.le_of_ble_eq_true rfl) (Nat.le_of_ble_eq_true rfl)
      · subst e_19
        obtain ⟨e9, he9, hb9⟩ := kO.s hLp_2
        obtain ⟨A9, rfl⟩ := List.getLast?_eq_some_iff.mp he9
        have hm9 : e9 ∈ C := by rw [hab]; simp
        have ha9 := hmo.at hm9
        have hkx : (md e9.2).1 < x := nn_lt (by omega) (by omega) (by rw [← ha9.2.2.2.2.2.2]; exact hA e9 (by simp))
        have hln9 : C.length = A9.length + 1 + B.length := by rw [hab]; simp
        have hdm9 := dmd_le ha9.2.2.2.2.2.1 hw ha9.2.2.2.2.1 ha9.2.2.1 ha9.2.2.2.1
        have hC8 := hmo.2.1
        refine g_iload_n hC dX7_interference_23 3 rfl 24 rfl ?_
        refine g_aload_n hC dX7_interference_24 0 rfl gRef_r 25 rfl ?_
        refine g_get (v := .ref an) hC cI6 hL_0 0 (Nat.le_of_ble_eq_true rfl) q512 rfl dX7_interference_25 28 rfl ?_
        refine g_aload hC dX7_interference_28 4 rfl gRef_r 30 rfl ?_
        refine g_callqP (g_V (As := [.ref x_18]) (rest := [.int (nI su)]) hC mvJ9_get q2661 (isTM.of hC.K hLp_0) (met_TMap_get l G ML an (8, 3) (8, 4) C x_18 e9.1 hLp_0 hb9) ⟨rfl, rfl⟩ ⟨(Nat.le_of_ble_eq_true rfl), (Nat.le_of_ble_eq_true rfl)⟩ rfl (Nat.le_of_ble_eq_true rfl) dX7_interference_30 rfl ⟨(Nat.le_of_ble_eq_true rfl), (Nat.le_of_ble_eq_true rfl)⟩) 33 rfl 1 (Nat.le_of_ble_eq_true rfl) ?_
        refine g_topv (y := .ref e9.2) (congrArg va_rf (show tget C e9.1 = some e9.2 from (tget_at hmo.1 hm9))) ?_
        have hE20 := hLp_1 e9 hm9
        refine g_castS hC (hC.at cI13) (gOf.of hC.K cI13 hE20) q2662 dX7_interference_33 36 rfl ?_
        refine g_iload_n hC dX7_interference_36 2 rfl 37 rfl ?_
        refine g_calliP (g_V (As := [.int (nI w)]) (rest := [.int (nI su)]) hC mvX17_demand q2692 (gOf.of hC.K cI13 hE20) (met_Mg_demand l G ML e9.2 (0, 4) (wN (md e9.2).2.1) ((md e9.2).2.2.1) ((md e9.2).2.2.2) w ha9.2.2.2.2.2.1 ⟨ha9.2.2.1, ha9.2.2.2.1⟩ ha9.2.2.2.2.1 hw hE20) ⟨rfl, rfl⟩ ⟨(Nat.le_of_ble_eq_true rfl), (Nat.le_of_ble_eq_true rfl)⟩ rfl (Nat.le_of_ble_eq_true rfl) dX7_interference_37 rfl ⟨(Nat.le_of_ble_eq_true rfl), (Nat.le_of_ble_eq_true rfl)⟩) 40 rfl 1 (Nat.le_of_ble_eq_true rfl) ?_
        refine g_iadd hC dX7_interference_40 41 rfl ?_
        refine g_topi (y := nI (su + dmd (wN (md e9.2).2.1) w ((md e9.2).2.2.2) ((md e9.2).2.2.1))) (nI_a (a := su) (b := (dmd (wN (md e9.2).2.1) w ((md e9.2).2.2.2) ((md e9.2).2.2.1))) (c := (su + dmd (wN (md e9.2).2.1) w ((md e9.2).2.2.2) ((md e9.2).2.2.1))) (by omega)) ?_
        refine g_istore_n hC dX7_interference_41 rfl (Nat.le_of_ble_eq_true rfl) [(3, .int (nI (su + dmd (wN (md e9.2).2.1) w ((md e9.2).2.2.2) ((md e9.2).2.2.1)))), (0, .ref ms), (1, .int (nI x)), (2, .int (nI w)), (4, .ref x_18)] rfl 42 rfl ?_
        refine g_aload_n hC dX7_interference_42 1 rfl gRef_r 43 rfl ?_
        refine g_get (v := .ref an) hC cI6 hL_0 0 (Nat.le_of_ble_eq_true rfl) q512 rfl dX7_interference_43 46 rfl ?_
        refine g_aload hC dX7_interference_46 4 rfl gRef_r 48 rfl ?_
        refine g_callq (g_V (As := [.ref x_18]) (rest := []) hC mvJ9_lowerKey q2684 (isTM.of hC.K hLp_0) (met_TMap_lowerKeyK l G ML an (8, 3) (8, 4) C x_18 e9.1 hLp_0 hb9) ⟨rfl, rfl⟩ ⟨(Nat.le_of_ble_eq_true rfl), (Nat.le_of_ble_eq_true rfl)⟩ rfl (Nat.le_of_ble_eq_true rfl) dX7_interference_48 rfl ⟨(Nat.le_of_ble_eq_true rfl), (Nat.le_of_ble_eq_true rfl)⟩) 1 (Nat.le_of_ble_eq_true rfl) 1 (Nat.le_of_ble_eq_true rfl) 51 rfl (fun r24 M21 k22 hp23 => ?_)
        obtain ⟨o9_25, rfl, hpd26, hF27, hk28⟩ := hp23
        refine g_castQS hC (hC.at cI28) (kO.of hC.K hpd26) q2678 dX7_interference_51 54 rfl ?_
        have hk29 := hpd26
        rw [show tlo C e9.1 = A9.getLast? by rw [hab, List.append_assoc]; exact tlo_next (by have h9 := hmo.1; rw [hab, List.append_assoc] at h9; exact h9)] at hk29
        refine g_astore hC dX7_interference_54 gRef_q (Nat.le_of_ble_eq_true rfl) [(4, va_rf o9_25), (3, .int (nI (su + dmd (wN (md e9.2).2.1) w ((md e9.2).2.2.2) ((md e9.2).2.2.1)))), (0, .ref ms), (1, .int (nI x)), (2, .int (nI w))] rfl 56 rfl ?_
        refine g_goto hC dX7_interference_56 18 rfl ?_
        refine gJ.sub (M' := M21) [2, 3, 4, 1, 0] rfl ?_
        exact ih A9 (e9 :: B) (su + dmd (wN (md e9.2).2.1) w ((md e9.2).2.2.2) ((md e9.2).2.2.1)) o9_25 M21 (by rw [hab]; simp) (fun e he => hA e (by simp [he])) (by show _ = itV x w (md e9.2) + itL x w (B.map (fun e => md e.2)); rw [← hm]; unfold itV; rw [if_pos hkx]; omega) (by simp only [List.length_cons]; omega) (by simp only [List.length_append, List.length_singleton] at hmu; omega) (hF27 _ _ _ hL_0 gno0) (isTM.fr hLp_0 (gFr.refl.trf hF27 (fun b t e hb hn => gno0))) (mss.fr hLp_1 (gFr.refl.trf hF27 (fun b t e hb hn => gno0))) hk29 (hLF.trans (hF27.mono (by intro b t hb; exact absurd hb List.not_mem_nil)))
  refine gJ.sub (M' := M9) [2, 3, 4, 1, 0] rfl ?_
  exact loop18 _ A0 B0 0 o9_13 M9 hab0 hA0 (itL_0 (fun d hd q => by obtain ⟨e, he, rfl⟩ := List.mem_map.mp hd; have hme : e ∈ C := by { rw [hab0]; exact List.mem_append.mpr (Or.inr he) }; have h9 := hmo.at hme; exact hB0 e he (by rw [h9.2.2.2.2.2.2]; exact (nI_ltI (by omega) (by omega)).mpr q))).symm (by omega) (Nat.lt_succ_self _) (hF15 _ _ _ (hF6 _ _ _ hM_0 gno0) gno0) (isTM.fr hP_0 ((gFr.refl.trf hF6 (fun b t e hb hn => gno0)).trf hF15 (fun b t e hb hn => gno0))) (mss.fr hP_1 ((gFr.refl.trf hF6 (fun b t e hb hn => gno0)).trf hF15 (fun b t e hb hn => gno0))) hk17 ((gFr.refl.trans (hF6.mono (by intro b t hb; exact absurd hb List.not_mem_nil))).trans (hF15.mono (by intro b t hb; exact absurd hb List.not_mem_nil)))
set_option maxHeartbeats 4000000 in
theorem met_Ms_response (l : Launch) (G : gG) (M : gM) (ms : Nat) (an : Nat) (C : List (Int32 × Nat)) (md : Nat → mE) (x : Nat) (ln : Nat) (pe : Nat) (ji : Nat) (mm : Nat) (hmo : mOk C md) (hx : x ≤ 2047) (hm : tget C (nI x) = some mm) (hmd : md mm = (x, ln, pe, ji)) (hM_0 : M ms = some ((8, 2), .inr (6, [.ref an]))) (hP_0 : isTM M G (8, 3) (8, 4) an C) (hP_1 : mss M C md) : Met l yX7_response (ws_ yX7_response cX7_response 6 (some .int)) ({ frames := 7, cells := 96, slots := 200, locals := 160 }) (gPc G [.ref ms, .int (nI x)] M) (gQi G (fun r9 M9 k9 => r9 = (rspE (C.map (fun e => md e.2)) (x, ln, pe, ji)) ∧ gFr (gL []) M M9 ∧ k9 ≤ 96)) 96 200 (gA G) := by
  refine gMet [(0, .ref ms), (1, .int (nI x))] (by decide) (Nat.le_of_ble_eq_true rfl) rfl ?_
  intro p e s m below meth c hC
  have hbb := hmo.at (tget_some hm)
  rw [show md ((nI x, mm) : Int32 × Nat).2 = (x, ln, pe, ji) from hmd] at hbb
  obtain ⟨-, hb1, hb2, hb3, hb4, hb5, -⟩ := hbb
  replace hb1 : ln ≤ 4 := hb1
  replace hb2 : 1 ≤ pe := hb2
  replace hb3 : pe ≤ 5000 := hb3
  replace hb4 : ji ≤ 500 := hb4
  replace hb5 : wN ln ≤ 95 := hb5
  have hbl := bkL_le (x := x) hmo.2.2.2
  have hC8 := hmo.2.1
  refine g_aload_n hC dX7_response_0 0 rfl gRef_r 1 rfl ?_
  refine g_get (v := .ref an) hC cI6 hM_0 0 (Nat.le_of_ble_eq_true rfl) q512 rfl dX7_response_1 4 rfl ?_
  refine g_iload_n hC dX7_response_4 1 rfl 5 rfl ?_
  refine g_callq (g_S (As := [.int (nI x)]) (rest := [.ref an]) hC msJ11_valueOf q2660 (met_valueOf l G M (nI x)) ⟨rfl, rfl⟩ ⟨(Nat.le_of_ble_eq_true rfl), (Nat.le_of_ble_eq_true rfl)⟩ rfl (Nat.le_of_ble_eq_true rfl) dX7_response_5 rfl ⟨(Nat.le_of_ble_eq_true rfl), (Nat.le_of_ble_eq_true rfl)⟩) 1 (Nat.le_of_ble_eq_true rfl) 1 (Nat.le_of_ble_eq_true rfl) 8 rfl (fun r4 M1 k2 hp3 => ?_)
  obtain ⟨a_5, rfl, hF6, hq7, hk8⟩ := hp3
  refine g_callqP (g_V (As := [.ref a_5]) (rest := []) hC mvJ9_get q2661 (isTM.of hC.K (isTM.fr hP_0 (gFr.refl.trf hF6 (fun b t e hb hn => gno0)))) (met_TMap_get l G M1 an (8, 3) (8, 4) C a_5 (nI x) (isTM.fr hP_0 (gFr.refl.trf hF6 (fun b t e hb hn => gno0))) hq7) ⟨rfl, rfl⟩ ⟨(Nat.le_of_ble_eq_true rfl), (Nat.le_of_ble_eq_true rfl)⟩ rfl (Nat.le_of_ble_eq_true rfl) dX7_response_8 rfl ⟨(Nat.le_of_ble_eq_true rfl), (Nat.le_of_ble_eq_true rfl)⟩) 11 rfl 1 (Nat.le_of_ble_eq_true rfl) ?_
  refine g_topv (y := .ref mm) (congrArg va_rf (show tget C (nI x) = some mm from hm)) ?_
  have hE9 := (mss.fr hP_1 (gFr.refl.trf hF6 (fun b t e hb hn => gno0))) _ (tget_some hm)
  rw [show md ((nI x, mm) : Int32 × Nat).2 = (x, ln, pe, ji) from hmd] at hE9
  refine g_castS hC (hC.at cI13) (gOf.of hC.K cI13 hE9) q2662 dX7_response_11 14 rfl ?_
  refine g_astore_n hC dX7_response_14 rfl gRef_r (Nat.le_of_ble_eq_true rfl) [(2, .ref mm), (0, .ref ms), (1, .int (nI x))] rfl 15 rfl ?_
  refine g_aload_n hC dX7_response_15 1 rfl gRef_r 16 rfl ?_
  refine g_iload_n hC dX7_response_16 2 rfl 17 rfl ?_
  refine g_calli (g_V (As := [.int (nI x)]) (rest := []) hC mvX7_blocking q2663 (gOf.of hC.K cI6 (hF6 _ _ _ hM_0 gno0)) (met_Ms_blocking l G M1 ms an C md x hmo hx (hF6 _ _ _ hM_0 gno0) (isTM.fr hP_0 (gFr.refl.trf hF6 (fun b t e hb hn => gno0))) (mss.fr hP_1 (gFr.refl.trf hF6 (fun b t e hb hn => gno0)))) ⟨rfl, rfl⟩ ⟨(Nat.le_of_ble_eq_true rfl), (Nat.le_of_ble_eq_true rfl)⟩ rfl (Nat.le_of_ble_eq_true rfl) dX7_response_17 rfl ⟨(Nat.le_of_ble_eq_true rfl), (Nat.le_of_ble_eq_true rfl)⟩) 2 (Nat.le_of_ble_eq_true rfl) 2 (Nat.le_of_ble_eq_true rfl) 20 rfl (fun r13 M10 k11 hp12 => ?_)
  obtain ⟨rfl, hF14, hk15⟩ := hp12
  refine g_istore_n hC dX7_response_20 rfl (Nat.le_of_ble_eq_true rfl) [(3, .int (nI (bkL x (C.map (fun e => md e.2))))), (2, .ref mm), (0, .ref ms), (1, .int (nI x))] rfl 21 rfl ?_
  refine g_iload_n hC dX7_response_21 0 rfl 22 rfl ?_
  refine g_istore hC dX7_response_22 (Nat.le_of_ble_eq_true rfl) [(4, .int (nI (bkL x (C.map (fun e => md e.2))))), (3, .int (nI (bkL x (C.map (fun e => md e.2))))), (2, .ref mm), (0, .ref ms), (1, .int (nI x))] rfl 24 rfl ?_
  have loop24 : ∀ (n9 : Nat) (w : Nat) (F : Nat) (r : Nat) (ML : gM), (hwn : wnd x (bkL x (C.map (fun e => md e.2))) (C.map (fun e => md e.2)) w) → (h5 : 5001 ≤ F + w) → (hw6 : w ≤ 9000000) → (hr : 55 * r ≤ w) → (hr2 : r ≤ 91) → (ht : rsp (fun w => bkL x (C.map (fun e => md e.2)) + itL x w (C.map (fun e => md e.2))) (ji + wN ln) pe F w = rspE (C.map (fun e => md e.2)) (x, ln, pe, ji)) → F < n9 → (ML ms = some ((8, 2), .inr (6, [.ref an]))) → (ML mm = some ((0, 4), .inr (13, [.int (nI (wN ln)), .int (nI pe), .int (nI ji)]))) → (isTM ML G (8, 3) (8, 4) an C) → (mss ML C md) → gFr (gL []) M ML → gJ p l e ({ frames := 7, cells := 96, slots := 200, locals := 160 } : Room) s m ([.ref ms, .int (nI x)] : List Value).toArray below meth c G 6 (MQ below (gQi G (fun r9 M9 k9 => r9 = (rspE (C.map (fun e => md e.2)) (x, ln, pe, ji)) ∧ gFr (gL []) M M9 ∧ k9 ≤ 96)) ([.ref ms, .int (nI x)] : List Value).toArray s 96 200 (gA G)) (r + 2) (2 * r + 4) ML 24 [(0, .ref ms), (1, .int (nI x)), (2, .ref mm), (3, .int (nI (bkL x (C.map (fun e => md e.2))))), (4, .int (nI w))] [] := by
    intro n9
    induction n9 with
    | zero => intro w F r ML hwn h5 hw6 hr hr2 ht hmu; exact absurd hmu (Nat.not_lt_zero _)
    | succ n9 ih =>
      intro w F r ML hwn h5 hw6 hr hr2 ht hmu hL_0 hL_1 hLp_0 hLp_1 hLF
      refine g_aload_n hC dX7_response_24 2 rfl gRef_r 25 rfl ?_
      refine g_getN (v := .int (nI ji)) hC cI13 hL_1 2 (Nat.le_of_ble_eq_true rfl) q2640 rfl dX7_response_25 28 rfl ?_
      refine g_iload hC dX7_response_28 4 rfl 30 rfl ?_
      refine g_iadd hC dX7_response_30 31 rfl ?_
      refine g_topi (y := nI (ji + w)) (nI_a (a := ji) (b := w) (c := (ji + w)) (by omega)) ?_
      refine g_aload_n hC dX7_response_31 2 rfl gRef_r 32 rfl ?_
      refine g_getN (v := .int (nI (wN ln))) hC cI13 hL_1 0 (Nat.le_of_ble_eq_true rfl) q2636 rfl dX7_response_32 35 rfl ?_
      refine g_iadd hC dX7_response_35 36 rfl ?_
      refine g_topi (y := nI (ji + w + wN ln)) (nI_a (a := (ji + w)) (b := (wN ln)) (c := (ji + w + wN ln)) (by omega)) ?_
      refine g_aload_n hC dX7_response_36 2 rfl gRef_r 37 rfl ?_
      refine g_getN (v := .int (nI pe)) hC cI13 hL_1 1 (Nat.le_of_ble_eq_true rfl) q2638 rfl dX7_response_37 40 rfl ?_
      refine g_icmp_gt hC dX7_response_40 81 rfl 43 rfl (fun c_16 => ?_) (fun c_16 => ?_)
      · replace c_16 : pe < ji + w + wN ln := nn_lt (by omega) (by omega) c_16
        refine g_bipush hC dX7_response_81 kb_m5 83 rfl ?_
        exact g_iret (v := -5) hC (fun k9 hk9 => ⟨(by rw [← ht]; exact (rsp_no (by omega) F).symm), hLF, (by first | exact Nat.le_zero.mp hk9 | omega)⟩) dX7_response_83 (by first | omega | (dsimp only; omega)) (by first | omega | (dsimp only; omega))
      · replace c_16 : ji + w + wN ln ≤ pe := nn_nlt (by omega) (by omega) c_16
        refine g_iload_n hC dX7_response_43 3 rfl 44 rfl ?_
        refine g_aload_n hC dX7_response_44 0 rfl gRef_r 45 rfl ?_
        refine g_iload_n hC dX7_response_45 1 rfl 46 rfl ?_
        refine g_iload hC dX7_response_46 4 rfl 48 rfl ?_
        refine g_calli (g_V (As := [.int (nI x), .int (nI w)]) (rest := [.int (nI (bkL x (C.map (fun e => md e.2))))]) hC mvX7_interference q2680 (gOf.of hC.K cI6 hL_0) (met_Ms_interference l G ML ms an C md x w hmo hx (by first | assumption | decide | omega | (dsimp only; omega) | simp_all) hL_0 hLp_0 hLp_1) ⟨rfl, rfl⟩ ⟨(Nat.le_of_ble_eq_true rfl), (Nat.le_of_ble_eq_true rfl)⟩ rfl (Nat.le_of_ble_eq_true rfl) dX7_response_48 rfl ⟨(by first | omega | (dsimp only; omega)), (by first | omega | (dsimp only; omega))⟩) (r + 2 + 1) (by first | omega | (dsimp only; omega)) (2 * r + 4 + 1) (by first | omega | (dsimp only; omega)) 51 rfl (fun r20 M17 k18 hp19 => ?_)
        obtain ⟨rfl, hF21, hk22⟩ := hp19
        have hit := itL_le (x := x) (show w ≤ 5000 by omega) hmo.2.2.2
        rw [List.length_map] at hit
        have hgp := hwn.gap
        refine g_iadd hC dX7_response_51 52 rfl ?_
        refine g_topi (y := nI (bkL x (C.map (fun e => md e.2)) + itL x w (C.map (fun e => md e.2)))) (nI_a (a := (bkL x (C.map (fun e => md e.2)))) (b := (itL x w (C.map (fun e => md e.2)))) (c := (bkL x (C.map (fun e => md e.2)) + itL x w (C.map (fun e => md e.2)))) (by omega)) ?_
        refine g_istore hC dX7_response_52 (Nat.le_of_ble_eq_true rfl) [(5, .int (nI (bkL x (C.map (fun e => md e.2)) + itL x w (C.map (fun e => md e.2))))), (0, .ref ms), (1, .int (nI x)), (2, .ref mm), (3, .int (nI (bkL x (C.map (fun e => md e.2))))), (4, .int (nI w))] rfl 54 rfl ?_
        refine g_iload hC dX7_response_54 0 rfl 56 rfl ?_
        refine g_iload hC dX7_response_56 5 rfl 58 rfl ?_
        refine g_icmp_ne hC dX7_response_58 74 rfl 61 rfl (fun c_23 => ?_) (fun c_23 => ?_)
        · replace c_23 : ¬ bkL x (C.map (fun e => md e.2)) + itL x w (C.map (fun e => md e.2)) = w := nn_neq (by omega) (by omega) c_23
          refine g_iload hC dX7_response_74 0 rfl 76 rfl ?_
          refine g_istore hC dX7_response_76 (Nat.le_of_ble_eq_true rfl) [(4, .int (nI (bkL x (C.map (fun e => md e.2)) + itL x w (C.map (fun e => md e.2))))), (5, .int (nI (bkL x (C.map (fun e => md e.2)) + itL x w (C.map (fun e => md e.2))))), (0, .ref ms), (1, .int (nI x)), (2, .ref mm), (3, .int (nI (bkL x (C.map (fun e => md e.2)))))] rfl 78 rfl ?_
          refine g_goto hC dX7_response_78 24 rfl ?_
          refine gJ.sub (M' := M17) [2, 3, 4, 5, 0] rfl ?_
          refine gJ.widen (k := (r + 1) + 2) (n := 2 * (r + 1) + 4) (by first | omega | (dsimp only; omega)) (by first | omega | (dsimp only; omega)) ?_
          exact ih (bkL x (C.map (fun e => md e.2)) + itL x w (C.map (fun e => md e.2))) (F - 1) (r + 1) M17 hwn.nx (by omega) (by omega) (by omega) (by omega) (by rw [← ht]; exact rsp_go (by omega) (fun q9 => by simp only at q9; omega) (by omega)) (by omega) (hF21 _ _ _ hL_0 gno0) (hF21 _ _ _ hL_1 gno0) (isTM.fr hLp_0 (gFr.refl.trf hF21 (fun b t e hb hn => gno0))) (mss.fr hLp_1 (gFr.refl.trf hF21 (fun b t e hb hn => gno0))) (hLF.trans (hF21.mono (by intro b t hb; exact absurd hb List.not_mem_nil)))
        · replace c_23 : bkL x (C.map (fun e => md e.2)) + itL x w (C.map (fun e => md e.2)) = w := nn_eq (by omega) (by omega) c_23
          refine g_aload_n hC dX7_response_61 3 rfl gRef_r 62 rfl ?_
          refine g_getN (v := .int (nI ji)) hC cI13 (hF21 _ _ _ hL_1 gno0) 2 (Nat.le_of_ble_eq_true rfl) q2640 rfl dX7_response_62 65 rfl ?_
          refine g_iload hC dX7_response_65 5 rfl 67 rfl ?_
          refine g_iadd hC dX7_response_67 68 rfl ?_
          refine g_topi (y := nI (ji + w)) (nI_a (a := ji) (b := w) (c := (ji + w)) (by omega)) ?_
          refine g_aload_n hC dX7_response_68 3 rfl gRef_r 69 rfl ?_
          refine g_getN (v := .int (nI (wN ln))) hC cI13 (hF21 _ _ _ hL_1 gno0) 0 (Nat.le_of_ble_eq_true rfl) q2636 rfl dX7_response_69 72 rfl ?_
          refine g_iadd hC dX7_response_72 73 rfl ?_
          refine g_topi (y := nI (ji + w + wN ln)) (nI_a (a := (ji + w)) (b := (wN ln)) (c := (ji + w + wN ln)) (by omega)) ?_
          exact g_iret (v := nI (ji + w + wN ln)) hC (fun k9 hk9 => ⟨(by rw [← ht, show ji + w + wN ln = ji + wN ln + w by omega]; exact rsp_end (by omega) (by simp only; omega) (by omega)), (hLF.trans (hF21.mono (by intro b t hb; exact absurd hb List.not_mem_nil))), (by first | exact Nat.le_zero.mp hk9 | omega)⟩) dX7_response_73 (by first | omega | (dsimp only; omega)) (by first | omega | (dsimp only; omega))
  refine gJ.sub (M' := M10) [3, 4, 2, 1, 0] rfl ?_
  refine gJ.widen (k := 0 + 2) (n := 2 * 0 + 4) (by first | omega | (dsimp only; omega)) (by first | omega | (dsimp only; omega)) ?_
  exact loop24 _ (bkL x (C.map (fun e => md e.2))) 5001 0 M10 (Or.inl rfl) (by omega) (by omega) (by omega) (by omega) rfl (Nat.lt_succ_self _) (hF14 _ _ _ (hF6 _ _ _ hM_0 gno0) gno0) (hF14 _ _ _ hE9 gno0) (isTM.fr hP_0 ((gFr.refl.trf hF6 (fun b t e hb hn => gno0)).trf hF14 (fun b t e hb hn => gno0))) (mss.fr hP_1 ((gFr.refl.trf hF6 (fun b t e hb hn => gno0)).trf hF14 (fun b t e hb hn => gno0))) ((gFr.refl.trans (hF6.mono (by intro b t hb; exact absurd hb List.not_mem_nil))).trans (hF14.mono (by intro b t hb; exact absurd hb List.not_mem_nil)))
theorem isTI.ofi {G : gG} {s : State} {M : gM} {t0 t1 : Nat × Nat} {mp : Nat} {C : List (Int32 × Nat)} {i it : Nat} (hK : gK G s) (h : isTI M G t0 t1 mp C i it) : gOf G s M "java/util/TreeMap$KeyIterator" it := by
  obtain ⟨cm, r, mc, ks, Ns, kb, vl, ky, lf, rt, pa, co, lo, hi, lr, -, -, -, -, -, -, -, -, h9⟩ := h
  exact gOf.of hK cI27 h9
theorem misL_t {E : List mE} {C : List (Int32 × Nat)} {md : Nat → mE} {i : Nat} {e : Int32 × Nat} (h : C[i]? = some e) : misL E ((C.take (i + 1)).map (fun e => md e.2)) = misL E ((C.take i).map (fun e => md e.2)) + (if rspE E (md e.2) = -5 then 1 else 0) := by
  rw [List.take_add_one, h, List.map_append, misL_app]
  rfl
set_option maxHeartbeats 4000000 in
theorem met_Ms_misses (l : Launch) (G : gG) (M : gM) (ms : Nat) (an : Nat) (C : List (Int32 × Nat)) (md : Nat → mE) (hmo : mOk C md) (hM_0 : M ms = some ((8, 2), .inr (6, [.ref an]))) (hP_0 : isTM M G (8, 3) (8, 4) an C) (hP_1 : mss M C md) : Met l yX7_misses (ws_ yX7_misses cX7_misses 4 (some .int)) ({ frames := 8, cells := 790, slots := 1700, locals := 185 }) (gPc G [.ref ms] M) (gQi G (fun r9 M9 k9 => r9 = (nI (misL (C.map (fun e => md e.2)) (C.map (fun e => md e.2)))) ∧ isTM M9 G (8, 3) (8, 4) an C ∧ gFr (gT (fun t => tgE 8 3 t ∨ tgE 9 1 t)) M M9 ∧ k9 ≤ 790)) 790 1700 (gA G) := by
  refine gMet [(0, .ref ms)] (by decide) (Nat.le_of_ble_eq_true rfl) rfl ?_
  intro p e s m below meth c hC
  have hC8 := hmo.2.1
  refine g_iconst hC dX7_misses_0 ki_0 1 rfl ?_
  refine g_istore_n hC dX7_misses_1 rfl (Nat.le_of_ble_eq_true rfl) [(1, .int 0), (0, .ref ms)] rfl 2 rfl ?_
  refine g_aload_n hC dX7_misses_2 1 rfl gRef_r 3 rfl ?_
  refine g_get (v := .ref an) hC cI6 hM_0 0 (Nat.le_of_ble_eq_true rfl) q512 rfl dX7_misses_3 6 rfl ?_
  refine g_callq (g_V (As := []) (rest := []) hC mvJ9_keySet q2704 (isTM.of hC.K hP_0) (met_TMap_keySet l G M an (8, 3) (8, 4) C (by decide) (by decide) hP_0) ⟨rfl, rfl⟩ ⟨(Nat.le_of_ble_eq_true rfl), (Nat.le_of_ble_eq_true rfl)⟩ rfl (Nat.le_of_ble_eq_true rfl) dX7_misses_6 rfl ⟨(Nat.le_of_ble_eq_true rfl), (Nat.le_of_ble_eq_true rfl)⟩) 1 (Nat.le_of_ble_eq_true rfl) 1 (Nat.le_of_ble_eq_true rfl) 9 rfl (fun r4 M1 k2 hp3 => ?_)
  obtain ⟨ka_5, rfl, hc6, hpd7, hF8, hk9⟩ := hp3
  refine g_callFq (g_F (n := 0) (As := []) (rest := []) hC ⟨by decide +kernel, q2503, q2505, q160, q2507, by decide +kernel⟩ q2706 (gOf.of hC.K cI26 hc6) (hC.at cI26) (met_TMap_iter l G M1 an (8, 3) (8, 4) C ka_5 hc6 hpd7) ⟨rfl, rfl⟩ ⟨(Nat.le_of_ble_eq_true rfl), (Nat.le_of_ble_eq_true rfl)⟩ rfl (Nat.le_of_ble_eq_true rfl) dX7_misses_9 rfl ⟨(Nat.le_of_ble_eq_true rfl), (Nat.le_of_ble_eq_true rfl)⟩) 2 (Nat.le_of_ble_eq_true rfl) 5 (Nat.le_of_ble_eq_true rfl) 14 rfl (fun r13 M10 k11 hp12 => ?_)
  obtain ⟨it_14, rfl, hpd15, hF16, hk17⟩ := hp12
  refine g_astore_n hC dX7_misses_14 rfl gRef_r (Nat.le_of_ble_eq_true rfl) [(2, .ref it_14), (1, .int 0), (0, .ref ms)] rfl 15 rfl ?_
  have loop15 : ∀ (n9 : Nat) (i : Nat) (n : Nat) (it : Nat) (ML : gM), (hi : i ≤ C.length) → (hnb : n ≤ i) → (hn : n = misL (C.map (fun e => md e.2)) ((C.take i).map (fun e => md e.2))) → C.length - i < n9 → (ML ms = some ((8, 2), .inr (6, [.ref an]))) → (isTI ML G (8, 3) (8, 4) an C i it) → (mss ML C md) → gFr (gT (fun t => tgE 8 3 t ∨ tgE 9 1 t)) M ML → gJ p l e ({ frames := 8, cells := 790, slots := 1700, locals := 185 } : Room) s m ([.ref ms] : List Value).toArray below meth c G 4 (MQ below (gQi G (fun r9 M9 k9 => r9 = (nI (misL (C.map (fun e => md e.2)) (C.map (fun e => md e.2)))) ∧ isTM M9 G (8, 3) (8, 4) an C ∧ gFr (gT (fun t => tgE 8 3 t ∨ tgE 9 1 t)) M M9 ∧ k9 ≤ 790)) ([.ref ms] : List Value).toArray s 790 1700 (gA G)) (96 * i + 3) (200 * i + 20) ML 15 [(0, .ref ms), (1, .int (nI n)), (2, .ref it)] [] := by
    intro n9
    induction n9 with
    | zero => intro i n it ML hi hnb hn hmu; exact absurd hmu (Nat.not_lt_zero _)
    | succ n9 ih =>
      intro i n it ML hi hnb hn hmu hL_0 hLp_0 hLp_1 hLF
      refine g_aload_n hC dX7_misses_15 2 rfl gRef_r 16 rfl ?_
      refine g_callFiP (g_F (n := 0) (As := []) (rest := []) hC ⟨by decide +kernel, q1335, q1337, q161, q1339, by decide +kernel⟩ q2708 (isTI.ofi hC.K hLp_0) (hC.at cI27) (met_TMap_hasNext l G ML an (8, 3) (8, 4) C i it hLp_0) ⟨rfl, rfl⟩ ⟨(Nat.le_of_ble_eq_true rfl), (Nat.le_of_ble_eq_true rfl)⟩ rfl (Nat.le_of_ble_eq_true rfl) dX7_misses_16 rfl ⟨(by first | omega | (dsimp only; omega)), (by first | omega | (dsimp only; omega))⟩) 21 rfl (200 * i + 20) (by first | omega | (dsimp only; omega)) ?_
      refine g_if_eq hC dX7_misses_21 58 rfl 24 rfl (fun c_18 => ?_) (fun c_18 => ?_)
      · replace c_18 := bId_0 c_18
        refine g_iload_n hC dX7_misses_58 1 rfl 59 rfl ?_
        exact g_iret (v := nI n) hC (fun k9 hk9 => ⟨(by rw [hn, List.take_of_length_le (by omega)]), (isTI.tm hLp_0), hLF, (by first | exact Nat.le_zero.mp hk9 | omega)⟩) dX7_misses_59 (by first | omega | (dsimp only; omega)) (by first | omega | (dsimp only; omega))
      · replace c_18 := bId_1 c_18
        obtain ⟨e9, he9⟩ : ∃ e, C[i]? = some e := ⟨_, List.getElem?_eq_getElem c_18⟩
        have hm9 : e9 ∈ C := List.mem_of_getElem? he9
        have ha9 := hmo.at hm9
        refine g_aload_n hC dX7_misses_24 2 rfl gRef_r 25 rfl ?_
        refine g_callFq (g_F (n := 0) (As := []) (rest := []) hC ⟨by decide +kernel, q1733, q1735, q162, q1737, by decide +kernel⟩ q2710 (isTI.ofi hC.K hLp_0) (hC.at cI27) (met_TMap_next l G ML an (8, 3) (8, 4) C i it e9 he9 ⟨by decide, by decide⟩ ⟨by decide, by decide⟩ hLp_0) ⟨rfl, rfl⟩ ⟨(Nat.le_of_ble_eq_true rfl), (Nat.le_of_ble_eq_true rfl)⟩ rfl (Nat.le_of_ble_eq_true rfl) dX7_misses_25 rfl ⟨(by first | omega | (dsimp only; omega)), (by first | omega | (dsimp only; omega))⟩) (96 * i + 3) (by first | omega | (dsimp only; omega)) (200 * i + 20) (by first | omega | (dsimp only; omega)) 30 rfl (fun r22 M19 k20 hp21 => ?_)
        obtain ⟨b9_23, rfl, hpd24, hpd25, hF26, hk27⟩ := hp21
        refine g_castS hC (hC.at cI28) (gOf.box hC.K hpd25) q2678 dX7_misses_30 33 rfl ?_
        refine g_astore_n hC dX7_misses_33 rfl gRef_r (Nat.le_of_ble_eq_true rfl) [(3, .ref b9_23), (0, .ref ms), (1, .int (nI n)), (2, .ref it)] rfl 34 rfl ?_
        refine g_iload_n hC dX7_misses_34 2 rfl 35 rfl ?_
        refine g_aload_n hC dX7_misses_35 1 rfl gRef_r 36 rfl ?_
        refine g_aload_n hC dX7_misses_36 0 rfl gRef_r 37 rfl ?_
        have hR28 : isTM M19 G (8, 3) (8, 4) an C := isTI.tm hpd24
        refine g_calliP (g_V (As := []) (rest := [.ref ms, .int (nI n)]) hC mvJ11_intValue q2711 (gOf.box hC.K hpd25) (met_intValue l G M19 b9_23 e9.1 hpd25) ⟨rfl, rfl⟩ ⟨(Nat.le_of_ble_eq_true rfl), (Nat.le_of_ble_eq_true rfl)⟩ rfl (Nat.le_of_ble_eq_true rfl) dX7_misses_37 rfl ⟨(by first | omega | (dsimp only; omega)), (by first | omega | (dsimp only; omega))⟩) 40 rfl (200 * i + 20) (by first | omega | (dsimp only; omega)) ?_
        refine g_topi (y := nI (md e9.2).1) ha9.2.2.2.2.2.2 ?_
        refine g_calli (g_V (As := [.int (nI (md e9.2).1)]) (rest := [.int (nI n)]) hC mvX7_response q2712 (gOf.of hC.K cI6 (hF26 _ _ _ hL_0 (show ¬ (tgE 9 1) (8, 2) by (try simp only [ndT, tgE, gT, tgR, ndT9, ndW, tg0, Prod.mk.injEq, true_and, and_true, cpyT]); first | done | omega | (simp; done) | simp_all))) (met_Ms_response l G M19 ms an C md ((md e9.2).1) ((md e9.2).2.1) ((md e9.2).2.2.1) ((md e9.2).2.2.2) e9.2 hmo ha9.1 (by rw [← ha9.2.2.2.2.2.2]; exact tget_at hmo.1 hm9) rfl (hF26 _ _ _ hL_0 (show ¬ (tgE 9 1) (8, 2) by (try simp only [ndT, tgE, gT, tgR, ndT9, ndW, tg0, Prod.mk.injEq, true_and, and_true, cpyT]); first | done | omega | (simp; done) | simp_all)) hR28 (mss.fr hLp_1 (gFr.refl.trans (hF26.mono (fun b t h => by obtain ⟨u9, v9⟩ := t; revert h; (try simp only [ndT, tgE, gT, tgR, ndT9, ndW, tg0, Prod.mk.injEq, true_and, and_true, cpyT]); first | done | omega | (simp; done) | (intro h; simp_all; done)))))) ⟨rfl, rfl⟩ ⟨(Nat.le_of_ble_eq_true rfl), (Nat.le_of_ble_eq_true rfl)⟩ rfl (Nat.le_of_ble_eq_true rfl) dX7_misses_40 rfl ⟨(by first | omega | (dsimp only; omega)), (by first | omega | (dsimp only; omega))⟩) (96 * i + 3 + 96) (by first | omega | (dsimp only; omega)) (200 * i + 20 + 200) (by first | omega | (dsimp only; omega)) 43 rfl (fun r32 M29 k30 hp31 => ?_)
        obtain ⟨rfl, hF33, hk34⟩ := hp31
        refine g_bipush hC dX7_misses_43 kb_m5 45 rfl ?_
        refine g_icmp_ne hC dX7_misses_45 52 rfl 48 rfl (fun c_35 => ?_) (fun c_35 => ?_)
        · refine g_iconst hC dX7_misses_52 ki_0 53 rfl ?_
          refine g_iadd hC dX7_misses_53 54 rfl ?_
          refine g_topi (y := nI n) (nI_a (a := n) (b := 0) (c := n) (by omega)) ?_
          refine g_istore_n hC dX7_misses_54 rfl (Nat.le_of_ble_eq_true rfl) [(1, .int (nI n)), (3, .ref b9_23), (0, .ref ms), (2, .ref it)] rfl 55 rfl ?_
          refine g_goto hC dX7_misses_55 15 rfl ?_
          refine gJ.sub (M' := M29) [2, 0, 3] rfl ?_
          refine gJ.widen (k := 96 * (i + 1) + 3) (n := 200 * (i + 1) + 20) (by first | omega | (dsimp only; omega)) (by first | omega | (dsimp only; omega)) ?_
          exact ih (i + 1) n it M29 (by omega) (by omega) (by rw [misL_t he9, if_neg c_35, ← hn]) (by omega) (hF33 _ _ _ (hF26 _ _ _ hL_0 (show ¬ (tgE 9 1) (8, 2) by (try simp only [ndT, tgE, gT, tgR, ndT9, ndW, tg0, Prod.mk.injEq, true_and, and_true, cpyT]); first | done | omega | (simp; done) | simp_all)) gno0) (isTI.fr hpd24 (gFr.refl.trf hF33 (fun b t e hb hn => gno0))) (mss.fr hLp_1 ((gFr.refl.trans (hF26.mono (fun b t h => by obtain ⟨u9, v9⟩ := t; revert h; (try simp only [ndT, tgE, gT, tgR, ndT9, ndW, tg0, Prod.mk.injEq, true_and, and_true, cpyT]); first | done | omega | (simp; done) | (intro h; simp_all; done)))).trf hF33 (fun b t e hb hn => gno0))) (hLF.trans ((gFr.refl.trans (hF26.mono (fun b t h => by obtain ⟨u9, v9⟩ := t; revert h; (try simp only [ndT, tgE, gT, tgR, ndT9, ndW, tg0, Prod.mk.injEq, true_and, and_true, cpyT]); first | done | omega | (simp; done) | (intro h; simp_all; done)))).trf hF33 (fun b t e hb hn => gno0)))
        · refine g_iconst hC dX7_misses_48 ki_1 49 rfl ?_
          refine g_goto hC dX7_misses_49 53 rfl ?_
          refine g_iadd hC dX7_misses_53 54 rfl ?_
          refine g_topi (y := nI (n + 1)) (nI_a (a := n) (b := 1) (c := (n + 1)) (by omega)) ?_
          refine g_istore_n hC dX7_misses_54 rfl (Nat.le_of_ble_eq_true rfl) [(1, .int (nI (n + 1))), (3, .ref b9_23), (0, .ref ms), (2, .ref it)] rfl 55 rfl ?_
          refine g_goto hC dX7_misses_55 15 rfl ?_
          refine gJ.sub (M' := M29) [2, 0, 3] rfl ?_
          refine gJ.widen (k := 96 * (i + 1) + 3) (n := 200 * (i + 1) + 20) (by first | omega | (dsimp only; omega)) (by first | omega | (dsimp only; omega)) ?_
          exact ih (i + 1) (n + 1) it M29 (by omega) (by omega) (by rw [misL_t he9, if_pos c_35, ← hn]) (by omega) (hF33 _ _ _ (hF26 _ _ _ hL_0 (show ¬ (tgE 9 1) (8, 2) by (try simp only [ndT, tgE, gT, tgR, ndT9, ndW, tg0, Prod.mk.injEq, true_and, and_true, cpyT]); first | done | omega | (simp; done) | simp_all)) gno0) (isTI.fr hpd24 (gFr.refl.trf hF33 (fun b t e hb hn => gno0))) (mss.fr hLp_1 ((gFr.refl.trans (hF26.mono (fun b t h => by obtain ⟨u9, v9⟩ := t; revert h; (try simp only [ndT, tgE, gT, tgR, ndT9, ndW, tg0, Prod.mk.injEq, true_and, and_true, cpyT]); first | done | omega | (simp; done) | (intro h; simp_all; done)))).trf hF33 (fun b t e hb hn => gno0))) (hLF.trans ((gFr.refl.trans (hF26.mono (fun b t h => by obtain ⟨u9, v9⟩ := t; revert h; (try simp only [ndT, tgE, gT, tgR, ndT9, ndW, tg0, Prod.mk.injEq, true_and, and_true, cpyT]); first | done | omega | (simp; done) | (intro h; simp_all; done)))).trf hF33 (fun b t e hb hn => gno0)))
  refine gJ.sub (M' := M10) [2, 1, 0] rfl ?_
  refine gJ.widen (k := 96 * 0 + 3) (n := 200 * 0 + 20) (by first | omega | (dsimp only; omega)) (by first | omega | (dsimp only; omega)) ?_
  exact loop15 _ 0 0 it_14 M10 (by omega) (by omega) rfl (Nat.lt_succ_self _) (hF16 _ _ _ (hF8 _ _ _ hM_0 (show ¬ (tgE (8, 3).1 (8, 3).2) (8, 2) by (try simp only [ndT, tgE, gT, tgR, ndT9, ndW, tg0, Prod.mk.injEq, true_and, and_true, cpyT]); first | done | omega | (simp; done) | simp_all)) gno0) hpd15 (mss.fr hP_1 ((gFr.refl.trans (hF8.mono (fun b t h => by obtain ⟨u9, v9⟩ := t; revert h; (try simp only [ndT, tgE, gT, tgR, ndT9, ndW, tg0, Prod.mk.injEq, true_and, and_true, cpyT]); first | done | omega | (simp; done) | (intro h; simp_all; done)))).trf hF16 (fun b t e hb hn => gno0))) ((gFr.refl.trans (hF8.mono (fun b t h => by obtain ⟨u9, v9⟩ := t; revert h; (try simp only [ndT, tgE, gT, tgR, ndT9, ndW, tg0, Prod.mk.injEq, true_and, and_true, cpyT]); first | done | omega | (simp; done) | (intro h; simp_all; done)))).trf hF16 (fun b t e hb hn => gno0))
