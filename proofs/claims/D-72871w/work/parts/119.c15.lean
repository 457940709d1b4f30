/-! Sampled, and a node's small methods -/
set_option maxRecDepth 100000
def smL (G : gG) (s : Nat → Int32) : List Value := [.int (s 0), .int (s 1), .int (s 2), .int (s 3), .int (s 4), .int (s 5), .int (s 6), .int (s 7), .int (s 8), .int (s 9)]
theorem smL_s0 {G : gG} {s : Nat → Int32} {v : Int32} : (smL G s).set 0 (.int v) = smL G (upd s 0 v) := rfl
theorem smL_s1 {G : gG} {s : Nat → Int32} {v : Int32} : (smL G s).set 1 (.int v) = smL G (upd s 1 v) := rfl
theorem smL_s2 {G : gG} {s : Nat → Int32} {v : Int32} : (smL G s).set 2 (.int v) = smL G (upd s 2 v) := rfl
theorem smL_s3 {G : gG} {s : Nat → Int32} {v : Int32} : (smL G s).set 3 (.int v) = smL G (upd s 3 v) := rfl
theorem smL_s4 {G : gG} {s : Nat → Int32} {v : Int32} : (smL G s).set 4 (.int v) = smL G (upd s 4 v) := rfl
theorem smL_s5 {G : gG} {s : Nat → Int32} {v : Int32} : (smL G s).set 5 (.int v) = smL G (upd s 5 v) := rfl
theorem smL_s6 {G : gG} {s : Nat → Int32} {v : Int32} : (smL G s).set 6 (.int v) = smL G (upd s 6 v) := rfl
theorem smL_s7 {G : gG} {s : Nat → Int32} {v : Int32} : (smL G s).set 7 (.int v) = smL G (upd s 7 v) := rfl
theorem smL_s8 {G : gG} {s : Nat → Int32} {v : Int32} : (smL G s).set 8 (.int v) = smL G (upd s 8 v) := rfl
theorem smL_s9 {G : gG} {s : Nat → Int32} {v : Int32} : (smL G s).set 9 (.int v) = smL G (upd s 9 v) := rfl
def ndL (G : gG) (of ph : Nat) (cu : Option Nat) (sa wa rc an er : Nat) (g : Nat → Int32) : List Value := [.ref of, .ref (gph G ph), .int (g 2), .int (g 3), .int (g 4), .int (g 5), .int (g 6), .int (g 7), .int (g 8), .int (g 9), va_rf cu, .ref sa, .ref wa, .ref rc, .ref an, .int (g 15), .int (g 16), .int (g 17), .ref er, .int (g 19), .int (g 20), .int (g 21), .int (g 22), .int (g 23)]
theorem ndL_s2 {G : gG} {of ph : Nat} {cu : Option Nat} {sa wa rc an er : Nat} {g : Nat → Int32} {v : Int32} : (ndL G of ph cu sa wa rc an er g).set 2 (.int v) = ndL G of ph cu sa wa rc an er (upd g 2 v) := rfl
theorem ndL_s3 {G : gG} {of ph : Nat} {cu : Option Nat} {sa wa rc an er : Nat} {g : Nat → Int32} {v : Int32} : (ndL G of ph cu sa wa rc an er g).set 3 (.int v) = ndL G of ph cu sa wa rc an er (upd g 3 v) := rfl
theorem ndL_s4 {G : gG} {of ph : Nat} {cu : Option Nat} {sa wa rc an er : Nat} {g : Nat → Int32} {v : Int32} : (ndL G of ph cu sa wa rc an er g).set 4 (.int v) = ndL G of ph cu sa wa rc an er (upd g 4 v) := rfl
theorem ndL_s5 {G : gG} {of ph : Nat} {cu : Option Nat} {sa wa rc an er : Nat} {g : Nat → Int32} {v : Int32} : (ndL G of ph cu sa wa rc an er g).set 5 (.int v) = ndL G of ph cu sa wa rc an er (upd g 5 v) := rfl
theorem ndL_s6 {G : gG} {of ph : Nat} {cu : Option Nat} {sa wa rc an er : Nat} {g : Nat → Int32} {v : Int32} : (ndL G of ph cu sa wa rc an er g).set 6 (.int v) = ndL G of ph cu sa wa rc an er (upd g 6 v) := rfl
theorem ndL_s7 {G : gG} {of ph : Nat} {cu : Option Nat} {sa wa rc an er : Nat} {g : Nat → Int32} {v : Int32} : (ndL G of ph cu sa wa rc an er g).set 7 (.int v) = ndL G of ph cu sa wa rc an er (upd g 7 v) := rfl
theorem ndL_s8 {G : gG} {of ph : Nat} {cu : Option Nat} {sa wa rc an er : Nat} {g : Nat → Int32} {v : Int32} : (ndL G of ph cu sa wa rc an er g).set 8 (.int v) = ndL G of ph cu sa wa rc an er (upd g 8 v) := rfl
theorem ndL_s9 {G : gG} {of ph : Nat} {cu : Option Nat} {sa wa rc an er : Nat} {g : Nat → Int32} {v : Int32} : (ndL G of ph cu sa wa rc an er g).set 9 (.int v) = ndL G of ph cu sa wa rc an er (upd g 9 v) := rfl
theorem ndL_s15 {G : gG} {of ph : Nat} {cu : Option Nat} {sa wa rc an er : Nat} {g : Nat → Int32} {v : Int32} : (ndL G of ph cu sa wa rc an er g).set 15 (.int v) = ndL G of ph cu sa wa rc an er (upd g 15 v) := rfl
theorem ndL_s16 {G : gG} {of ph : Nat} {cu : Option Nat} {sa wa rc an er : Nat} {g : Nat → Int32} {v : Int32} : (ndL G of ph cu sa wa rc an er g).set 16 (.int v) = ndL G of ph cu sa wa rc an er (upd g 16 v) := rfl
theorem ndL_s17 {G : gG} {of ph : Nat} {cu : Option Nat} {sa wa rc an er : Nat} {g : Nat → Int32} {v : Int32} : (ndL G of ph cu sa wa rc an er g).set 17 (.int v) = ndL G of ph cu sa wa rc an er (upd g 17 v) := rfl
theorem ndL_s19 {G : gG} {of ph : Nat} {cu : Option Nat} {sa wa rc an er : Nat} {g : Nat → Int32} {v : Int32} : (ndL G of ph cu sa wa rc an er g).set 19 (.int v) = ndL G of ph cu sa wa rc an er (upd g 19 v) := rfl
theorem ndL_s20 {G : gG} {of ph : Nat} {cu : Option Nat} {sa wa rc an er : Nat} {g : Nat → Int32} {v : Int32} : (ndL G of ph cu sa wa rc an er g).set 20 (.int v) = ndL G of ph cu sa wa rc an er (upd g 20 v) := rfl
theorem ndL_s21 {G : gG} {of ph : Nat} {cu : Option Nat} {sa wa rc an er : Nat} {g : Nat → Int32} {v : Int32} : (ndL G of ph cu sa wa rc an er g).set 21 (.int v) = ndL G of ph cu sa wa rc an er (upd g 21 v) := rfl
theorem ndL_s22 {G : gG} {of ph : Nat} {cu : Option Nat} {sa wa rc an er : Nat} {g : Nat → Int32} {v : Int32} : (ndL G of ph cu sa wa rc an er g).set 22 (.int v) = ndL G of ph cu sa wa rc an er (upd g 22 v) := rfl
theorem ndL_s23 {G : gG} {of ph : Nat} {cu : Option Nat} {sa wa rc an er : Nat} {g : Nat → Int32} {v : Int32} : (ndL G of ph cu sa wa rc an er g).set 23 (.int v) = ndL G of ph cu sa wa rc an er (upd g 23 v) := rfl
set_option maxHeartbeats 4000000 in
theorem met_Sg_isDue (l : Launch) (G : gG) (M : gM) (sa : Nat) (ts : Nat × Nat) (s1 : Nat → Int32)  (hM_0 : M sa = some (ts, .inr (4, smL G  s1))) : Met l yX4_isDue (ws_ yX4_isDue cX4_isDue 1 (some .boolean)) ({ frames := 0, cells := 0, slots := 0, locals := 0 }) (gPc G [.ref sa] M) (gQi G (fun r9 M9 k9 => r9 = (bI (decide (s1 1 = 5))) ∧ M9 = M ∧ k9 = 0)) 0 0 (gA G) := by
  refine gMet [(0, .ref sa)] (by decide) (Nat.le_of_ble_eq_true rfl) rfl ?_
  intro p e s m below meth c hC
  refine g_aload_n hC dX4_isDue_0 0 rfl gRef_r 1 rfl ?_
  refine g_get (v := .int (s1 1)) hC cI4 hM_0 1 (Nat.le_of_ble_eq_true rfl) q253 rfl dX4_isDue_1 4 rfl ?_
  refine g_iconst hC dX4_isDue_4 ki_5 5 rfl ?_
  refine g_icmp_ne hC dX4_isDue_5 12 rfl 8 rfl (fun c_1 => ?_) (fun c_1 => ?_)
  · refine g_iconst hC dX4_isDue_12 ki_0 13 rfl ?_
    exact g_zret (v := 0) hC (by decide) (fun k9 hk9 => ⟨(bI_nd (by first | assumption | (simp_all; done))), rfl, Nat.le_zero.mp hk9⟩) dX4_isDue_13 (Nat.le_of_ble_eq_true rfl) (Nat.le_of_ble_eq_true rfl)
  · refine g_iconst hC dX4_isDue_8 ki_1 9 rfl ?_
    refine g_goto hC dX4_isDue_9 13 rfl ?_
    exact g_zret (v := 1) hC (by decide) (fun k9 hk9 => ⟨(bI_d (by first | assumption | (simp_all; done))), rfl, Nat.le_zero.mp hk9⟩) dX4_isDue_13 (Nat.le_of_ble_eq_true rfl) (Nat.le_of_ble_eq_true rfl)
set_option maxHeartbeats 4000000 in
theorem met_Sg_stuff (l : Launch) (G : gG) (M : gM) (sa : Nat) (ts : Nat × Nat) (s1 : Nat → Int32)  (hM_0 : M sa = some (ts, .inr (4, smL G  s1))) : Met l yX4_stuff (ws_ yX4_stuff cX4_stuff 1 (some .int)) ({ frames := 0, cells := 0, slots := 0, locals := 0 }) (gPc G [.ref sa] M) (gQi G (fun r9 M9 k9 => r9 = (1 - s1 0) ∧ M9 = M ∧ k9 = 0)) 0 0 (gA G) := by
  refine gMet [(0, .ref sa)] (by decide) (Nat.le_of_ble_eq_true rfl) rfl ?_
  intro p e s m below meth c hC
  refine g_iconst hC dX4_stuff_0 ki_1 1 rfl ?_
  refine g_aload_n hC dX4_stuff_1 0 rfl gRef_r 2 rfl ?_
  refine g_get (v := .int (s1 0)) hC cI4 hM_0 0 (Nat.le_of_ble_eq_true rfl) q252 rfl dX4_stuff_2 5 rfl ?_
  refine g_isub hC dX4_stuff_5 6 rfl ?_
  exact g_iret (v := 1 - (s1 0)) hC (fun k9 hk9 => ⟨(by first | rfl | (simp only [if_true, if_false, true_and, and_true, false_and, and_false, true_or, or_true, false_or, or_false, not_true_eq_false, not_false_eq_true, reduceIte, decide_true, decide_false, Bool.false_eq_true]; done) | (simp only [if_true, if_false, true_and, and_true, false_and, and_false, true_or, or_true, false_or, or_false, not_true_eq_false, not_false_eq_true, reduceIte, decide_true, decide_false, Bool.false_eq_true]; rfl) | (simp only [if_true, if_false, true_and, and_true, false_and, and_false, true_or, or_true, false_or, or_false, not_true_eq_false, not_false_eq_true, reduceIte, decide_true, decide_false, Bool.false_eq_true]; done) | (simp only []; simp only [if_true, if_false, true_and, and_true, false_and, and_false, true_or, or_true, false_or, or_false, not_true_eq_false, not_false_eq_true, reduceIte, decide_true, decide_false, Bool.false_eq_true]; done) | (simp only []; simp only [if_true, if_false, true_and, and_true, false_and, and_false, true_or, or_true, false_or, or_false, not_true_eq_false, not_false_eq_true, reduceIte, decide_true, decide_false, Bool.false_eq_true]; done) | (simp only []; simp only [if_true, if_false, true_and, and_true, false_and, and_false, true_or, or_true, false_or, or_false, not_true_eq_false, not_false_eq_true, reduceIte, decide_true, decide_false, Bool.false_eq_true]; simp only []; done) | (simp only [if_true, if_false, true_and, and_true, false_and, and_false, true_or, or_true, false_or, or_false, not_true_eq_false, not_false_eq_true, reduceIte, decide_true, decide_false, Bool.false_eq_true]; rfl) | (simp only []; simp only [if_true, if_false, true_and, and_true, false_and, and_false, true_or, or_true, false_or, or_false, not_true_eq_false, not_false_eq_true, reduceIte, decide_true, decide_false, Bool.false_eq_true]; rfl) | (simp only []; rfl) | (simp only [if_true, if_false, true_and, and_true, false_and, and_false, true_or, or_true, false_or, or_false, not_true_eq_false, not_false_eq_true, reduceIte, decide_true, decide_false, Bool.false_eq_true]; rfl) | (simp_all []; done)), rfl, Nat.le_zero.mp hk9⟩) dX4_stuff_6 (Nat.le_of_ble_eq_true rfl) (Nat.le_of_ble_eq_true rfl)
def smSee (s : Nat → Int32) (v : Int32) : Nat → Int32 := upd (upd s 1 (if v = s 0 then s 1 + 1 else 1)) 0 v
set_option maxHeartbeats 4000000 in
theorem met_Sg_see (l : Launch) (G : gG) (M : gM) (sa : Nat) (ts : Nat × Nat) (s1 : Nat → Int32) (lev : Int32)  (hM_0 : M sa = some (ts, .inr (4, smL G  s1))) : Met l yX4_see (ws_ yX4_see cX4_see 2 none) ({ frames := 0, cells := 0, slots := 0, locals := 0 }) (gPc G [.ref sa, .int lev] M) (gQv G (fun M9 k9 => M9 sa = some (ts, .inr (4, smL G  (smSee s1 lev))) ∧ gFr (gL [sa]) M M9 ∧ k9 = 0)) 0 0 (gA G) := by
  refine gMet [(0, .ref sa), (1, .int lev)] (by decide) (Nat.le_of_ble_eq_true rfl) rfl ?_
  intro p e s m below meth c hC
  refine g_aload_n hC dX4_see_0 0 rfl gRef_r 1 rfl ?_
  refine g_iload_n hC dX4_see_1 1 rfl 2 rfl ?_
  refine g_aload_n hC dX4_see_2 0 rfl gRef_r 3 rfl ?_
  refine g_get (v := .int (s1 0)) hC cI4 hM_0 0 (Nat.le_of_ble_eq_true rfl) q252 rfl dX4_see_3 6 rfl ?_
  refine g_icmp_ne hC dX4_see_6 18 rfl 9 rfl (fun c_1 => ?_) (fun c_1 => ?_)
  · refine g_iconst hC dX4_see_18 ki_1 19 rfl ?_
    obtain ⟨F4, eF5⟩ : ∃ z9, z9 = upd s1 1 1 := ⟨_, rfl⟩
    refine g_put hC cI4 hM_0 1 (Nat.le_of_ble_eq_true rfl) q253 rfl rfl rfl (Nat.le_of_ble_eq_true rfl) dX4_see_19 (fs' := smL G  F4) (by rw [eF5]; exact smL_s1) 22 rfl (fun M2 hU3 => ?_)
    refine g_aload_n hC dX4_see_22 0 rfl gRef_r 23 rfl ?_
    refine g_iload_n hC dX4_see_23 1 rfl 24 rfl ?_
    obtain ⟨F8, eF9⟩ : ∃ z9, z9 = upd F4 0 lev := ⟨_, rfl⟩
    refine g_put hC cI4 hU3.1 0 (Nat.le_of_ble_eq_true rfl) q252 rfl rfl rfl (Nat.le_of_ble_eq_true rfl) dX4_see_24 (fs' := smL G  F8) (by rw [eF9]; exact smL_s0) 27 rfl (fun M6 hU7 => ?_)
    exact g_vret hC (fun k9 hk9 => ⟨(by rw [hU7.1]; simp only [smSee, eq_false c_1, if_true, if_false, ← eF5, ← eF9]), ((gFr.refl.up hU3 hM_0 (by simp)).up hU7 hU3.1 (by simp)), (by first | exact Nat.le_zero.mp hk9 | omega)⟩) dX4_see_27 (Nat.le_of_ble_eq_true rfl) (Nat.le_of_ble_eq_true rfl)
  · refine g_aload_n hC dX4_see_9 0 rfl gRef_r 10 rfl ?_
    refine g_get (v := .int (s1 1)) hC cI4 hM_0 1 (Nat.le_of_ble_eq_true rfl) q253 rfl dX4_see_10 13 rfl ?_
    refine g_iconst hC dX4_see_13 ki_1 14 rfl ?_
    refine g_iadd hC dX4_see_14 15 rfl ?_
    refine g_goto hC dX4_see_15 19 rfl ?_
    obtain ⟨F12, eF13⟩ : ∃ z9, z9 = upd s1 1 ((s1 1) + 1) := ⟨_, rfl⟩
    refine g_put hC cI4 hM_0 1 (Nat.le_of_ble_eq_true rfl) q253 rfl rfl rfl (Nat.le_of_ble_eq_true rfl) dX4_see_19 (fs' := smL G  F12) (by rw [eF13]; exact smL_s1) 22 rfl (fun M10 hU11 => ?_)
    refine g_aload_n hC dX4_see_22 0 rfl gRef_r 23 rfl ?_
    refine g_iload_n hC dX4_see_23 1 rfl 24 rfl ?_
    obtain ⟨F16, eF17⟩ : ∃ z9, z9 = upd F12 0 lev := ⟨_, rfl⟩
    refine g_put hC cI4 hU11.1 0 (Nat.le_of_ble_eq_true rfl) q252 rfl rfl rfl (Nat.le_of_ble_eq_true rfl) dX4_see_24 (fs' := smL G  F16) (by rw [eF17]; exact smL_s0) 27 rfl (fun M14 hU15 => ?_)
    exact g_vret hC (fun k9 hk9 => ⟨(by rw [hU15.1]; simp only [smSee, eq_true c_1, if_true, if_false, ← eF13, ← eF17]), ((gFr.refl.up hU11 hM_0 (by simp)).up hU15 hU11.1 (by simp)), (by first | exact Nat.le_zero.mp hk9 | omega)⟩) dX4_see_27 (Nat.le_of_ble_eq_true rfl) (Nat.le_of_ble_eq_true rfl)
def smCopy (s : Nat → Int32) (x y : Int32) : Nat → Int32 := upd (upd s 0 x) 1 y
set_option maxHeartbeats 4000000 in
theorem met_Sg_copyS (l : Launch) (G : gG) (M : gM) (sa : Nat) (ts : Nat × Nat) (s1 : Nat → Int32) (h : Nat) (th : Nat × Nat) (x : Int32) (y : Int32)  (hM_0 : M sa = some (ts, .inr (4, smL G  s1))) (hM_1 : M h = some (th, .inr (3, [.int x, .int y]))) : Met l yX4_copy (ws_ yX4_copy cX4_copy 2 none) ({ frames := 0, cells := 0, slots := 0, locals := 0 }) (gPc G [.ref sa, .ref h] M) (gQv G (fun M9 k9 => M9 sa = some (ts, .inr (4, smL G  (smCopy s1 x y))) ∧ gFr (gL [sa]) M M9 ∧ k9 = 0)) 0 0 (gA G) := by
  refine gMet [(0, .ref sa), (1, .ref h)] (by decide) (Nat.le_of_ble_eq_true rfl) rfl ?_
  intro p e s m below meth c hC
  refine g_aload_n hC dX4_copy_0 0 rfl gRef_r 1 rfl ?_
  refine g_aload_n hC dX4_copy_1 1 rfl gRef_r 2 rfl ?_
  refine g_get (v := .int x) hC cI3 hM_1 0 (Nat.le_of_ble_eq_true rfl) q252 rfl dX4_copy_2 5 rfl ?_
  obtain ⟨F3, eF4⟩ : ∃ z9, z9 = upd s1 0 x := ⟨_, rfl⟩
  refine g_put hC cI4 hM_0 0 (Nat.le_of_ble_eq_true rfl) q252 rfl rfl rfl (Nat.le_of_ble_eq_true rfl) dX4_copy_5 (fs' := smL G  F3) (by rw [eF4]; exact smL_s0) 8 rfl (fun M1 hU2 => ?_)
  refine g_aload_n hC dX4_copy_8 0 rfl gRef_r 9 rfl ?_
  refine g_aload_n hC dX4_copy_9 1 rfl gRef_r 10 rfl ?_
  refine g_get (v := .int y) hC cI3 (hU2.n (gne_c hM_1 hM_0 (by decide)) hM_1) 1 (Nat.le_of_ble_eq_true rfl) q253 rfl dX4_copy_10 13 rfl ?_
  obtain ⟨F7, eF8⟩ : ∃ z9, z9 = upd F3 1 y := ⟨_, rfl⟩
  refine g_put hC cI4 hU2.1 1 (Nat.le_of_ble_eq_true rfl) q253 rfl rfl rfl (Nat.le_of_ble_eq_true rfl) dX4_copy_13 (fs' := smL G  F7) (by rw [eF8]; exact smL_s1) 16 rfl (fun M5 hU6 => ?_)
  exact g_vret hC (fun k9 hk9 => ⟨(by rw [hU6.1]; simp only [smCopy, ← eF4, ← eF8]), ((gFr.refl.up hU2 hM_0 (by simp)).up hU6 hU2.1 (by simp)), (by first | exact Nat.le_zero.mp hk9 | omega)⟩) dX4_copy_16 (Nat.le_of_ble_eq_true rfl) (Nat.le_of_ble_eq_true rfl)
set_option maxHeartbeats 4000000 in
theorem met_Sg_copyG (l : Launch) (G : gG) (M : gM) (sa : Nat) (ts : Nat × Nat) (s1 : Nat → Int32) (h : Nat) (th : Nat × Nat) (s2 : Nat → Int32) (hne : sa ≠ h) (hM_0 : M sa = some (ts, .inr (4, smL G  s1))) (hM_1 : M h = some (th, .inr (4, smL G  s2))) : Met l yX4_copy (ws_ yX4_copy cX4_copy 2 none) ({ frames := 0, cells := 0, slots := 0, locals := 0 }) (gPc G [.ref sa, .ref h] M) (gQv G (fun M9 k9 => M9 sa = some (ts, .inr (4, smL G  (smCopy s1 (s2 0) (s2 1)))) ∧ gFr (gL [sa]) M M9 ∧ k9 = 0)) 0 0 (gA G) := by
  refine gMet [(0, .ref sa), (1, .ref h)] (by decide) (Nat.le_of_ble_eq_true rfl) rfl ?_
  intro p e s m below meth c hC
  refine g_aload_n hC dX4_copy_0 0 rfl gRef_r 1 rfl ?_
  refine g_aload_n hC dX4_copy_1 1 rfl gRef_r 2 rfl ?_
  refine g_get (v := .int (s2 0)) hC cI4 hM_1 0 (Nat.le_of_ble_eq_true rfl) q252 rfl dX4_copy_2 5 rfl ?_
  obtain ⟨F3, eF4⟩ : ∃ z9, z9 = upd s1 0 (s2 0) := ⟨_, rfl⟩
  refine g_put hC cI4 hM_0 0 (Nat.le_of_ble_eq_true rfl) q252 rfl rfl rfl (Nat.le_of_ble_eq_true rfl) dX4_copy_5 (fs' := smL G  F3) (by rw [eF4]; exact smL_s0) 8 rfl (fun M1 hU2 => ?_)
  refine g_aload_n hC dX4_copy_8 0 rfl gRef_r 9 rfl ?_
  refine g_aload_n hC dX4_copy_9 1 rfl gRef_r 10 rfl ?_
  refine g_get (v := .int (s2 1)) hC cI4 (hU2.n (Ne.symm hne) hM_1) 1 (Nat.le_of_ble_eq_true rfl) q253 rfl dX4_copy_10 13 rfl ?_
  obtain ⟨F7, eF8⟩ : ∃ z9, z9 = upd F3 1 (s2 1) := ⟨_, rfl⟩
  refine g_put hC cI4 hU2.1 1 (Nat.le_of_ble_eq_true rfl) q253 rfl rfl rfl (Nat.le_of_ble_eq_true rfl) dX4_copy_13 (fs' := smL G  F7) (by rw [eF8]; exact smL_s1) 16 rfl (fun M5 hU6 => ?_)
  exact g_vret hC (fun k9 hk9 => ⟨(by rw [hU6.1]; simp only [smCopy, ← eF4, ← eF8]), ((gFr.refl.up hU2 hM_0 (by simp)).up hU6 hU2.1 (by simp)), (by first | exact Nat.le_zero.mp hk9 | omega)⟩) dX4_copy_16 (Nat.le_of_ble_eq_true rfl) (Nat.le_of_ble_eq_true rfl)
def smBare (s : Nat → Int32) : Int32 := 19 + (if s 4 = 0 then 8 * s 5 else 0)
set_option maxHeartbeats 4000000 in
theorem met_Sg_bare (l : Launch) (G : gG) (M : gM) (sa : Nat) (ts : Nat × Nat) (s1 : Nat → Int32)  (hM_0 : M sa = some (ts, .inr (4, smL G  s1))) : Met l yX5_bare (ws_ yX5_bare cX5_bare 1 (some .int)) ({ frames := 0, cells := 0, slots := 0, locals := 0 }) (gPc G [.ref sa] M) (gQi G (fun r9 M9 k9 => r9 = (smBare s1) ∧ M9 = M ∧ k9 = 0)) 0 0 (gA G) := by
  refine gMet [(0, .ref sa)] (by decide) (Nat.le_of_ble_eq_true rfl) rfl ?_
  intro p e s m below meth c hC
  refine g_bipush hC dX5_bare_0 kb_19 2 rfl ?_
  refine g_aload_n hC dX5_bare_2 0 rfl gRef_r 3 rfl ?_
  refine g_get (v := .int (s1 4)) hC cI4 hM_0 4 (Nat.le_of_ble_eq_true rfl) q242 rfl dX5_bare_3 6 rfl ?_
  refine g_if_eq hC dX5_bare_6 13 rfl 9 rfl (fun c_1 => ?_) (fun c_1 => ?_)
  · refine g_bipush hC dX5_bare_13 kb_8 15 rfl ?_
    refine g_aload_n hC dX5_bare_15 0 rfl gRef_r 16 rfl ?_
    refine g_get (v := .int (s1 5)) hC cI4 hM_0 5 (Nat.le_of_ble_eq_true rfl) q244 rfl dX5_bare_16 19 rfl ?_
    refine g_imul hC dX5_bare_19 20 rfl ?_
    refine g_iadd hC dX5_bare_20 21 rfl ?_
    exact g_iret (v := 19 + (8 * (s1 5))) hC (fun k9 hk9 => ⟨(by simp only [smBare, eq_true c_1, if_true, if_false] <;> rfl), rfl, Nat.le_zero.mp hk9⟩) dX5_bare_21 (Nat.le_of_ble_eq_true rfl) (Nat.le_of_ble_eq_true rfl)
  · refine g_iconst hC dX5_bare_9 ki_0 10 rfl ?_
    refine g_goto hC dX5_bare_10 20 rfl ?_
    refine g_iadd hC dX5_bare_20 21 rfl ?_
    refine g_topi (y := 19) (nI_a (a := 19) (b := 0) (c := 19) (by omega)) ?_
    exact g_iret (v := 19) hC (fun k9 hk9 => ⟨(by simp only [smBare, eq_false c_1, if_true, if_false] <;> rfl), rfl, Nat.le_zero.mp hk9⟩) dX5_bare_21 (Nat.le_of_ble_eq_true rfl) (Nat.le_of_ble_eq_true rfl)
def smStf (s : Nat → Int32) : Prop := s 2 < 19 ∨ s 2 < smBare s + 15 ∨ s 1 = 5
abbrev smStfB (s : Nat → Int32) : Bool := decide (s 2 < 19 ∨ s 2 < smBare s + 15 ∨ s 1 = 5)
set_option maxHeartbeats 4000000 in
theorem met_Sg_isStuffed (l : Launch) (G : gG) (M : gM) (sa : Nat) (ts : Nat × Nat) (s1 : Nat → Int32)  (hM_0 : M sa = some (ts, .inr (4, smL G  s1))) : Met l yX5_isStuffed (ws_ yX5_isStuffed cX5_isStuffed 1 (some .boolean)) ({ frames := 1, cells := 0, slots := 0, locals := 20 }) (gPc G [.ref sa] M) (gQi G (fun r9 M9 k9 => r9 = (bI (smStfB s1)) ∧ M9 = M ∧ k9 = 0)) 0 0 (gA G) := by
  refine gMet [(0, .ref sa)] (by decide) (Nat.le_of_ble_eq_true rfl) rfl ?_
  intro p e s m below meth c hC
  refine g_aload_n hC dX5_isStuffed_0 0 rfl gRef_r 1 rfl ?_
  refine g_get (v := .int (s1 2)) hC cI4 hM_0 2 (Nat.le_of_ble_eq_true rfl) q238 rfl dX5_isStuffed_1 4 rfl ?_
  refine g_bipush hC dX5_isStuffed_4 kb_19 6 rfl ?_
  refine g_icmp_lt hC dX5_isStuffed_6 30 rfl 9 rfl (fun c_1 => ?_) (fun c_1 => ?_)
  · refine g_iconst hC dX5_isStuffed_30 ki_1 31 rfl ?_
    refine g_goto hC dX5_isStuffed_31 35 rfl ?_
    exact g_zret (v := 1) hC (by decide) (fun k9 hk9 => ⟨(bI_d (by simp_all)), rfl, Nat.le_zero.mp hk9⟩) dX5_isStuffed_35 (Nat.le_of_ble_eq_true rfl) (Nat.le_of_ble_eq_true rfl)
  · refine g_aload_n hC dX5_isStuffed_9 0 rfl gRef_r 10 rfl ?_
    refine g_get (v := .int (s1 2)) hC cI4 hM_0 2 (Nat.le_of_ble_eq_true rfl) q238 rfl dX5_isStuffed_10 13 rfl ?_
    refine g_aload_n hC dX5_isStuffed_13 0 rfl gRef_r 14 rfl ?_
    refine g_calliP (g_V (As := []) (rest := [.int (s1 2)]) hC mvX5_bare q1844 (gOf.of hC.K cI4 hM_0) (met_Sg_bare l G M sa ts s1 hM_0) ⟨rfl, rfl⟩ ⟨(Nat.le_of_ble_eq_true rfl), (Nat.le_of_ble_eq_true rfl)⟩ rfl (Nat.le_of_ble_eq_true rfl) dX5_isStuffed_14 rfl ⟨(Nat.le_of_ble_eq_true rfl), (Nat.le_of_ble_eq_true rfl)⟩) 17 rfl 0 (Nat.le_of_ble_eq_true rfl) ?_
    refine g_bipush hC dX5_isStuffed_17 kb_15 19 rfl ?_
    refine g_iadd hC dX5_isStuffed_19 20 rfl ?_
    refine g_icmp_lt hC dX5_isStuffed_20 30 rfl 23 rfl (fun c_2 => ?_) (fun c_2 => ?_)
    · refine g_iconst hC dX5_isStuffed_30 ki_1 31 rfl ?_
      refine g_goto hC dX5_isStuffed_31 35 rfl ?_
      exact g_zret (v := 1) hC (by decide) (fun k9 hk9 => ⟨(bI_d (by simp_all)), rfl, Nat.le_zero.mp hk9⟩) dX5_isStuffed_35 (Nat.le_of_ble_eq_true rfl) (Nat.le_of_ble_eq_true rfl)
    · refine g_aload_n hC dX5_isStuffed_23 0 rfl gRef_r 24 rfl ?_
      refine g_calliP (g_U (n := 0) (As := []) (rest := []) hC ⟨q1849, q1851, q1283, q111, q1287, (Or.inl rfl), by decide +kernel⟩ q1848 (gOf.of hC.K cI4 hM_0) (met_Sg_isDue l G M sa ts s1 hM_0) ⟨rfl, rfl⟩ ⟨(Nat.le_of_ble_eq_true rfl), (Nat.le_of_ble_eq_true rfl)⟩ rfl (Nat.le_of_ble_eq_true rfl) dX5_isStuffed_24 rfl ⟨(Nat.le_of_ble_eq_true rfl), (Nat.le_of_ble_eq_true rfl)⟩) 27 rfl 0 (Nat.le_of_ble_eq_true rfl) ?_
      refine g_if_eq hC dX5_isStuffed_27 34 rfl 30 rfl (fun c_3 => ?_) (fun c_3 => ?_)
      · replace c_3 := bId_0 c_3
        refine g_iconst hC dX5_isStuffed_34 ki_0 35 rfl ?_
        exact g_zret (v := 0) hC (by decide) (fun k9 hk9 => ⟨(bI_nd (by simp_all)), rfl, Nat.le_zero.mp hk9⟩) dX5_isStuffed_35 (Nat.le_of_ble_eq_true rfl) (Nat.le_of_ble_eq_true rfl)
      · replace c_3 := bId_1 c_3
        refine g_iconst hC dX5_isStuffed_30 ki_1 31 rfl ?_
        refine g_goto hC dX5_isStuffed_31 35 rfl ?_
        exact g_zret (v := 1) hC (by decide) (fun k9 hk9 => ⟨(bI_d (by simp_all)), rfl, Nat.le_zero.mp hk9⟩) dX5_isStuffed_35 (Nat.le_of_ble_eq_true rfl) (Nat.le_of_ble_eq_true rfl)
set_option maxHeartbeats 4000000 in
theorem met_Sg_isIntact (l : Launch) (G : gG) (M : gM) (sa : Nat) (ts : Nat × Nat) (s1 : Nat → Int32)  (hM_0 : M sa = some (ts, .inr (4, smL G  s1))) : Met l yX5_isIntact (ws_ yX5_isIntact cX5_isIntact 1 (some .boolean)) ({ frames := 0, cells := 0, slots := 0, locals := 0 }) (gPc G [.ref sa] M) (gQi G (fun r9 M9 k9 => r9 = (bI (decide (s1 7 = s1 8))) ∧ M9 = M ∧ k9 = 0)) 0 0 (gA G) := by
  refine gMet [(0, .ref sa)] (by decide) (Nat.le_of_ble_eq_true rfl) rfl ?_
  intro p e s m below meth c hC
  refine g_aload_n hC dX5_isIntact_0 0 rfl gRef_r 1 rfl ?_
  refine g_get (v := .int (s1 7)) hC cI4 hM_0 7 (Nat.le_of_ble_eq_true rfl) q248 rfl dX5_isIntact_1 4 rfl ?_
  refine g_aload_n hC dX5_isIntact_4 0 rfl gRef_r 5 rfl ?_
  refine g_get (v := .int (s1 8)) hC cI4 hM_0 8 (Nat.le_of_ble_eq_true rfl) q249 rfl dX5_isIntact_5 8 rfl ?_
  refine g_icmp_ne hC dX5_isIntact_8 15 rfl 11 rfl (fun c_1 => ?_) (fun c_1 => ?_)
  · refine g_iconst hC dX5_isIntact_15 ki_0 16 rfl ?_
    exact g_zret (v := 0) hC (by decide) (fun k9 hk9 => ⟨(bI_nd (by first | assumption | (simp_all; done))), rfl, Nat.le_zero.mp hk9⟩) dX5_isIntact_16 (Nat.le_of_ble_eq_true rfl) (Nat.le_of_ble_eq_true rfl)
  · refine g_iconst hC dX5_isIntact_11 ki_1 12 rfl ?_
    refine g_goto hC dX5_isIntact_12 16 rfl ?_
    exact g_zret (v := 1) hC (by decide) (fun k9 hk9 => ⟨(bI_d (by first | assumption | (simp_all; done))), rfl, Nat.le_zero.mp hk9⟩) dX5_isIntact_16 (Nat.le_of_ble_eq_true rfl) (Nat.le_of_ble_eq_true rfl)
def smClear (s : Nat → Int32) : Nat → Int32 := upd (upd (upd (upd (upd (upd (upd (upd (smCopy s (-1) 0) 2 0) 3 0) 4 0) 5 0) 6 0) 7 0) 8 0) 9 0
set_option maxHeartbeats 4000000 in
theorem met_Sg_clear (l : Launch) (G : gG) (M : gM) (sa : Nat) (ts : Nat × Nat) (s1 : Nat → Int32)  (hM_0 : M sa = some (ts, .inr (4, smL G  s1))) : Met l yX5_clear (ws_ yX5_clear cX5_clear 1 none) ({ frames := 2, cells := 1, slots := 2, locals := 32 }) (gPc G [.ref sa] M) (gQv G (fun M9 k9 => M9 sa = some (ts, .inr (4, smL G  (smClear s1))) ∧ gFr (gL [sa]) M M9 ∧ k9 ≤ 1)) 1 2 (gA G) := by
  refine gMet [(0, .ref sa)] (by decide) (Nat.le_of_ble_eq_true rfl) rfl ?_
  intro p e s m below meth c hC
  refine g_aload_n hC dX5_clear_0 0 rfl gRef_r 1 rfl ?_
  refine g_new hC cI3 q2140 q2141 q111 df3 (9, 2) (Nat.le_of_ble_eq_true rfl) (Nat.le_of_ble_eq_true rfl) 1 (Nat.le_of_ble_eq_true rfl) 2 (Nat.le_of_ble_eq_true rfl) dX5_clear_1 4 rfl (fun a1 M2 hN3 => ?_)
  refine g_dup hC dX5_clear_4 rfl 5 rfl ?_
  refine g_callv (g_IN (As := []) (rest := [.ref a1, .ref sa]) hC miX4_init q234 (met_St_init l G M2 a1 (9, 2) hN3.2.1) ⟨rfl, rfl⟩ ⟨(Nat.le_of_ble_eq_true rfl), (Nat.le_of_ble_eq_true rfl)⟩ rfl (Nat.le_of_ble_eq_true rfl) dX5_clear_5 rfl ⟨(Nat.le_of_ble_eq_true rfl), (Nat.le_of_ble_eq_true rfl)⟩) 1 (Nat.le_of_ble_eq_true rfl) 2 (Nat.le_of_ble_eq_true rfl) 8 rfl (fun M4 k5 hp6 => ?_)
  obtain ⟨hc8, hF9, hk10⟩ := hp6
  refine g_callv (g_U (n := 1) (As := [.ref a1]) (rest := []) hC ⟨q2146, q2148, q2149, q111, q2150, (Or.inl rfl), by decide +kernel⟩ q2145 (gOf.of hC.K cI4 (hF9 _ _ _ (hN3.n hM_0) (gno (hN3.ne hM_0) gno0))) (met_Sg_copyS l G M4 sa ts s1 a1 (9, 2) (-1) 0 (hF9 _ _ _ (hN3.n hM_0) (gno (hN3.ne hM_0) gno0)) hc8) ⟨rfl, rfl⟩ ⟨(Nat.le_of_ble_eq_true rfl), (Nat.le_of_ble_eq_true rfl)⟩ rfl (Nat.le_of_ble_eq_true rfl) dX5_clear_8 rfl ⟨(Nat.le_of_ble_eq_true rfl), (Nat.le_of_ble_eq_true rfl)⟩) 1 (Nat.le_of_ble_eq_true rfl) 2 (Nat.le_of_ble_eq_true rfl) 11 rfl (fun M11 k12 hp13 => ?_)
  obtain ⟨hc15, hF16, hk17⟩ := hp13
  obtain ⟨F18, eF19⟩ : ∃ z9, z9 = smCopy s1 (-1) 0 := ⟨_, rfl⟩
  rw [← eF19] at hc15
  have hH20 := (hF16 _ _ _ hc8 (gno (Ne.symm (hN3.ne hM_0)) gno0))
  refine g_aload_n hC dX5_clear_11 0 rfl gRef_r 12 rfl ?_
  refine g_iconst hC dX5_clear_12 ki_0 13 rfl ?_
  obtain ⟨F23, eF24⟩ : ∃ z9, z9 = upd F18 2 0 := ⟨_, rfl⟩
  refine g_put hC cI4 hc15 2 (Nat.le_of_ble_eq_true rfl) q238 rfl rfl rfl (Nat.le_of_ble_eq_true rfl) dX5_clear_13 (fs' := smL G  F23) (by rw [eF24]; exact smL_s2) 16 rfl (fun M21 hU22 => ?_)
  refine g_aload_n hC dX5_clear_16 0 rfl gRef_r 17 rfl ?_
  refine g_iconst hC dX5_clear_17 ki_0 18 rfl ?_
  obtain ⟨F27, eF28⟩ : ∃ z9, z9 = upd F23 3 0 := ⟨_, rfl⟩
  refine g_put hC cI4 hU22.1 3 (Nat.le_of_ble_eq_true rfl) q240 rfl rfl rfl (Nat.le_of_ble_eq_true rfl) dX5_clear_18 (fs' := smL G  F27) (by rw [eF28]; exact smL_s3) 21 rfl (fun M25 hU26 => ?_)
  refine g_aload_n hC dX5_clear_21 0 rfl gRef_r 22 rfl ?_
  refine g_iconst hC dX5_clear_22 ki_0 23 rfl ?_
  obtain ⟨F31, eF32⟩ : ∃ z9, z9 = upd F27 4 0 := ⟨_, rfl⟩
  refine g_put hC cI4 hU26.1 4 (Nat.le_of_ble_eq_true rfl) q242 rfl (by decide) rfl (Nat.le_of_ble_eq_true rfl) dX5_clear_23 (fs' := smL G  F31) (by rw [eF32]; exact smL_s4) 26 rfl (fun M29 hU30 => ?_)
  refine g_aload_n hC dX5_clear_26 0 rfl gRef_r 27 rfl ?_
  refine g_iconst hC dX5_clear_27 ki_0 28 rfl ?_
  obtain ⟨F35, eF36⟩ : ∃ z9, z9 = upd F31 5 0 := ⟨_, rfl⟩
  refine g_put hC cI4 hU30.1 5 (Nat.le_of_ble_eq_true rfl) q244 rfl rfl rfl (Nat.le_of_ble_eq_true rfl) dX5_clear_28 (fs' := smL G  F35) (by rw [eF36]; exact smL_s5) 31 rfl (fun M33 hU34 => ?_)
  have hH37 := (hU34.n (Ne.symm (hN3.ne hM_0)) (hU30.n (Ne.symm (hN3.ne hM_0)) (hU26.n (Ne.symm (hN3.ne hM_0)) (hU22.n (Ne.symm (hN3.ne hM_0)) hH20))))
  refine g_aload_n hC dX5_clear_31 0 rfl gRef_r 32 rfl ?_
  refine g_iconst hC dX5_clear_32 ki_0 33 rfl ?_
  obtain ⟨F40, eF41⟩ : ∃ z9, z9 = upd F35 6 0 := ⟨_, rfl⟩
  refine g_put hC cI4 hU34.1 6 (Nat.le_of_ble_eq_true rfl) q246 rfl rfl rfl (Nat.le_of_ble_eq_true rfl) dX5_clear_33 (fs' := smL G  F40) (by rw [eF41]; exact smL_s6) 36 rfl (fun M38 hU39 => ?_)
  refine g_aload_n hC dX5_clear_36 0 rfl gRef_r 37 rfl ?_
  refine g_iconst hC dX5_clear_37 ki_0 38 rfl ?_
  obtain ⟨F44, eF45⟩ : ∃ z9, z9 = upd F40 7 0 := ⟨_, rfl⟩
  refine g_put hC cI4 hU39.1 7 (Nat.le_of_ble_eq_true rfl) q248 rfl rfl rfl (Nat.le_of_ble_eq_true rfl) dX5_clear_38 (fs' := smL G  F44) (by rw [eF45]; exact smL_s7) 41 rfl (fun M42 hU43 => ?_)
  refine g_aload_n hC dX5_clear_41 0 rfl gRef_r 42 rfl ?_
  refine g_iconst hC dX5_clear_42 ki_0 43 rfl ?_
  obtain ⟨F48, eF49⟩ : ∃ z9, z9 = upd F44 8 0 := ⟨_, rfl⟩
  refine g_put hC cI4 hU43.1 8 (Nat.le_of_ble_eq_true rfl) q249 rfl rfl rfl (Nat.le_of_ble_eq_true rfl) dX5_clear_43 (fs' := smL G  F48) (by rw [eF49]; exact smL_s8) 46 rfl (fun M46 hU47 => ?_)
  refine g_aload_n hC dX5_clear_46 0 rfl gRef_r 47 rfl ?_
  refine g_iconst hC dX5_clear_47 ki_0 48 rfl ?_
  obtain ⟨F52, eF53⟩ : ∃ z9, z9 = upd F48 9 0 := ⟨_, rfl⟩
  refine g_put hC cI4 hU47.1 9 (Nat.le_of_ble_eq_true rfl) q250 rfl rfl rfl (Nat.le_of_ble_eq_true rfl) dX5_clear_48 (fs' := smL G  F52) (by rw [eF53]; exact smL_s9) 51 rfl (fun M50 hU51 => ?_)
  have hH54 := (hU51.n (Ne.symm (hN3.ne hM_0)) (hU47.n (Ne.symm (hN3.ne hM_0)) (hU43.n (Ne.symm (hN3.ne hM_0)) (hU39.n (Ne.symm (hN3.ne hM_0)) hH37))))
  exact g_vret hC (fun k9 hk9 => ⟨(by rw [hU51.1]; simp only [smClear, ← eF19, ← eF24, ← eF28, ← eF32, ← eF36, ← eF41, ← eF45, ← eF49, ← eF53]), (((((((((((gFr.refl.nw hN3).trf hF9 (fun b t e hb hn => (gno (hN3.ne (gFr.refl b t e hb hn)) gno0))).trans (hF16.mono (by intro b t hb; simp at hb ⊢; first | done | (rcases hb with rfl | rfl | rfl | rfl <;> simp) | (simp [hb]; done)))).up hU22 hc15 (by simp)).up hU26 hU22.1 (by simp)).up hU30 hU26.1 (by simp)).up hU34 hU30.1 (by simp)).up hU39 hU34.1 (by simp)).up hU43 hU39.1 (by simp)).up hU47 hU43.1 (by simp)).up hU51 hU47.1 (by simp)), (by first | exact Nat.le_zero.mp hk9 | omega)⟩) dX5_clear_51 (Nat.le_of_ble_eq_true rfl) (Nat.le_of_ble_eq_true rfl)
def smT1 (s : Nat → Int32) (v : Int32) : Nat → Int32 := if s 2 < 19 ∨ s 2 < smBare s then upd s 7 (crcS (s 7) v) else upd s 8 (s 8 <<< ((1 : Int32) &&& 31) ||| v)
def smT2 (s0 s : Nat → Int32) (v : Int32) : Nat → Int32 :=
  if 0 < s0 2 ∧ s0 2 < 12 then upd s 3 (s0 3 <<< ((1 : Int32) &&& 31) ||| v)
  else if s0 2 = 12 then upd s 4 (if v = 1 then 1 else 0)
  else if 15 ≤ s0 2 ∧ s0 2 < 19 then upd s 5 (s0 5 <<< ((1 : Int32) &&& 31) ||| v)
  else if 19 ≤ s0 2 ∧ s0 2 < smBare s then upd s 6 (s0 6 <<< ((1 : Int32) &&& 31) ||| v) else s
def smTake (s : Nat → Int32) (v : Int32) : Nat → Int32 := upd (smT2 s (smT1 s v) v) 2 (s 2 + 1)
set_option maxHeartbeats 4000000 in
theorem met_Sg_take (l : Launch) (G : gG) (M : gM) (sa : Nat) (ts : Nat × Nat) (s1 : Nat → Int32) (lev : Int32)  (hM_0 : M sa = some (ts, .inr (4, smL G  s1))) : Met l yX5_take (ws_ yX5_take cX5_take 2 none) ({ frames := 1, cells := 0, slots := 0, locals := 23 }) (gPc G [.ref sa, .int lev] M) (gQv G (fun M9 k9 => M9 sa = some (ts, .inr (4, smL G  (smTake s1 lev))) ∧ gFr (gL [sa]) M M9 ∧ k9 = 0)) 0 0 (gA G) := by
  refine gMet [(0, .ref sa), (1, .int lev)] (by decide) (Nat.le_of_ble_eq_true rfl) rfl ?_
  intro p e s m below meth c hC
  refine g_aload_n hC dX5_take_0 0 rfl gRef_r 1 rfl ?_
  refine g_get (v := .int (s1 2)) hC cI4 hM_0 2 (Nat.le_of_ble_eq_true rfl) q238 rfl dX5_take_1 4 rfl ?_
  refine g_bipush hC dX5_take_4 kb_19 6 rfl ?_
  refine g_icmp_lt hC dX5_take_6 20 rfl 9 rfl (fun c_1 => ?_) (fun c_1 => ?_)
  · refine g_aload_n hC dX5_take_20 0 rfl gRef_r 21 rfl ?_
    refine g_aload_n hC dX5_take_21 0 rfl gRef_r 22 rfl ?_
    refine g_get (v := .int (s1 7)) hC cI4 hM_0 7 (Nat.le_of_ble_eq_true rfl) q248 rfl dX5_take_22 25 rfl ?_
    refine g_iload_n hC dX5_take_25 1 rfl 26 rfl ?_
    refine g_calliP (g_SN (As := [.int (s1 7), .int lev]) (rest := [.ref sa]) hC msX0_shifted q2159 (met_shifted l G M (s1 7) lev) ⟨rfl, rfl⟩ ⟨(Nat.le_of_ble_eq_true rfl), (Nat.le_of_ble_eq_true rfl)⟩ rfl (Nat.le_of_ble_eq_true rfl) dX5_take_26 rfl ⟨(Nat.le_of_ble_eq_true rfl), (Nat.le_of_ble_eq_true rfl)⟩) 29 rfl 0 (Nat.le_of_ble_eq_true rfl) ?_
    obtain ⟨F4, eF5⟩ : ∃ z9, z9 = upd s1 7 (crcS (s1 7) lev) := ⟨_, rfl⟩
    refine g_put hC cI4 hM_0 7 (Nat.le_of_ble_eq_true rfl) q248 rfl rfl rfl (Nat.le_of_ble_eq_true rfl) dX5_take_29 (fs' := smL G  F4) (by rw [eF5]; exact smL_s7) 32 rfl (fun M2 hU3 => ?_)
    refine g_goto hC dX5_take_32 47 rfl ?_
    refine g_aload_n hC dX5_take_47 0 rfl gRef_r 48 rfl ?_
    refine g_get (v := .int (F4 2)) hC cI4 hU3.1 2 (Nat.le_of_ble_eq_true rfl) q238 rfl dX5_take_48 51 rfl ?_
    refine g_topi (y := s1 2) (by rw [eF5, pk_un (by omega)]) ?_
    refine g_if_le hC dX5_take_51 78 rfl 54 rfl (fun c_6 => ?_) (fun c_6 => ?_)
    · refine g_aload_n hC dX5_take_78 0 rfl gRef_r 79 rfl ?_
      refine g_get (v := .int (F4 2)) hC cI4 hU3.1 2 (Nat.le_of_ble_eq_true rfl) q238 rfl dX5_take_79 82 rfl ?_
      refine g_topi (y := s1 2) (by rw [eF5, pk_un (by omega)]) ?_
      refine g_bipush hC dX5_take_82 kb_12 84 rfl ?_
      refine g_icmp_ne hC dX5_take_84 104 rfl 87 rfl (fun c_7 => ?_) (fun c_7 => ?_)
      · refine g_aload_n hC dX5_take_104 0 rfl gRef_r 105 rfl ?_
        refine g_get (v := .int (F4 2)) hC cI4 hU3.1 2 (Nat.le_of_ble_eq_true rfl) q238 rfl dX5_take_105 108 rfl ?_
        refine g_topi (y := s1 2) (by rw [eF5, pk_un (by omega)]) ?_
        refine g_bipush hC dX5_take_108 kb_15 110 rfl ?_
        refine g_icmp_lt hC dX5_take_110 137 rfl 113 rfl (fun c_8 => ?_) (fun c_8 => ?_)
        · refine g_aload_n hC dX5_take_137 0 rfl gRef_r 138 rfl ?_
          refine g_get (v := .int (F4 2)) hC cI4 hU3.1 2 (Nat.le_of_ble_eq_true rfl) q238 rfl dX5_take_138 141 rfl ?_
          refine g_topi (y := s1 2) (by rw [eF5, pk_un (by omega)]) ?_
          refine g_bipush hC dX5_take_141 kb_19 143 rfl ?_
          refine g_icmp_lt hC dX5_take_143 169 rfl 146 rfl (fun c_9 => ?_) (fun c_9 => ?_)
          · refine g_aload_n hC dX5_take_169 0 rfl gRef_r 170 rfl ?_
            refine g_dup hC dX5_take_170 rfl 171 rfl ?_
            refine g_get (v := .int (F4 2)) hC cI4 hU3.1 2 (Nat.le_of_ble_eq_true rfl) q238 rfl dX5_take_171 174 rfl ?_
            refine g_topi (y := s1 2) (by rw [eF5, pk_un (by omega)]) ?_
            refine g_iconst hC dX5_take_174 ki_1 175 rfl ?_
            refine g_iadd hC dX5_take_175 176 rfl ?_
            obtain ⟨F12, eF13⟩ : ∃ z9, z9 = upd F4 2 ((s1 2) + 1) := ⟨_, rfl⟩
            refine g_put hC cI4 hU3.1 2 (Nat.le_of_ble_eq_true rfl) q238 rfl rfl rfl (Nat.le_of_ble_eq_true rfl) dX5_take_176 (fs' := smL G  F12) (by rw [eF13]; exact smL_s2) 179 rfl (fun M10 hU11 => ?_)
            exact g_vret hC (fun k9 hk9 => ⟨(by first | (rw [hU11.1]; have hT1 : smT1 s1 lev = F4 := (by simp only [smT1, eq_true c_1, eq_false (Int32.not_le.mpr c_1), eq_true c_6, eq_false (Int32.not_lt.mpr c_6), eq_false c_7, eq_true c_8, eq_false (Int32.not_le.mpr c_8), eq_true c_9, eq_false (Int32.not_le.mpr c_9), if_true, if_false, true_and, and_true, false_and, and_false, true_or, or_true, false_or, or_false, not_true_eq_false, not_false_eq_true, reduceIte, decide_true, decide_false, Bool.false_eq_true]; exact eF5.symm); simp only [smTake, hT1, smT2, eq_true c_1, eq_false (Int32.not_le.mpr c_1), eq_true c_6, eq_false (Int32.not_lt.mpr c_6), eq_false c_7, eq_true c_8, eq_false (Int32.not_le.mpr c_8), eq_true c_9, eq_false (Int32.not_le.mpr c_9), if_true, if_false, true_and, and_true, false_and, and_false, true_or, or_true, false_or, or_false, not_true_eq_false, not_false_eq_true, reduceIte, decide_true, decide_false, Bool.false_eq_true, ← eF5, ← eF13]; done) | (exfalso; simp only [Int32.lt_iff_toInt_lt, Int32.le_iff_toInt_le, ← Int32.toInt_inj, (show Int32.toInt 0 = 0 from rfl), (show Int32.toInt 1 = 1 from rfl), (show Int32.toInt 2 = 2 from rfl), (show Int32.toInt 3 = 3 from rfl), (show Int32.toInt 4 = 4 from rfl), (show Int32.toInt 5 = 5 from rfl), (show Int32.toInt 6 = 6 from rfl), (show Int32.toInt 7 = 7 from rfl), (show Int32.toInt 8 = 8 from rfl), (show Int32.toInt 9 = 9 from rfl), (show Int32.toInt 11 = 11 from rfl), (show Int32.toInt 12 = 12 from rfl), (show Int32.toInt 13 = 13 from rfl), (show Int32.toInt 15 = 15 from rfl), (show Int32.toInt 18 = 18 from rfl), (show Int32.toInt 19 = 19 from rfl)] at c_1 c_6 c_7 c_8 c_9; omega)), ((gFr.refl.up hU3 hM_0 (by simp)).up hU11 hU3.1 (by simp)), (by first | exact Nat.le_zero.mp hk9 | omega)⟩) dX5_take_179 (Nat.le_of_ble_eq_true rfl) (Nat.le_of_ble_eq_true rfl)
          · exact absurd c_1 c_9
        · refine g_aload_n hC dX5_take_113 0 rfl gRef_r 114 rfl ?_
          refine g_get (v := .int (F4 2)) hC cI4 hU3.1 2 (Nat.le_of_ble_eq_true rfl) q238 rfl dX5_take_114 117 rfl ?_
          refine g_topi (y := s1 2) (by rw [eF5, pk_un (by omega)]) ?_
          refine g_bipush hC dX5_take_117 kb_19 119 rfl ?_
          refine g_icmp_ge hC dX5_take_119 137 rfl 122 rfl (fun c_14 => ?_) (fun c_14 => ?_)
          · refine g_aload_n hC dX5_take_137 0 rfl gRef_r 138 rfl ?_
            refine g_get (v := .int (F4 2)) hC cI4 hU3.1 2 (Nat.le_of_ble_eq_true rfl) q238 rfl dX5_take_138 141 rfl ?_
            refine g_topi (y := s1 2) (by rw [eF5, pk_un (by omega)]) ?_
            refine g_bipush hC dX5_take_141 kb_19 143 rfl ?_
            refine g_icmp_lt hC dX5_take_143 169 rfl 146 rfl (fun c_15 => ?_) (fun c_15 => ?_)
            · refine g_aload_n hC dX5_take_169 0 rfl gRef_r 170 rfl ?_
              refine g_dup hC dX5_take_170 rfl 171 rfl ?_
              refine g_get (v := .int (F4 2)) hC cI4 hU3.1 2 (Nat.le_of_ble_eq_true rfl) q238 rfl dX5_take_171 174 rfl ?_
              refine g_topi (y := s1 2) (by rw [eF5, pk_un (by omega)]) ?_
              refine g_iconst hC dX5_take_174 ki_1 175 rfl ?_
              refine g_iadd hC dX5_take_175 176 rfl ?_
              obtain ⟨F18, eF19⟩ : ∃ z9, z9 = upd F4 2 ((s1 2) + 1) := ⟨_, rfl⟩
              refine g_put hC cI4 hU3.1 2 (Nat.le_of_ble_eq_true rfl) q238 rfl rfl rfl (Nat.le_of_ble_eq_true rfl) dX5_take_176 (fs' := smL G  F18) (by rw [eF19]; exact smL_s2) 179 rfl (fun M16 hU17 => ?_)
              exact g_vret hC (fun k9 hk9 => ⟨(by first | (rw [hU17.1]; have hT1 : smT1 s1 lev = F4 := (by simp only [smT1, eq_true c_1, eq_false (Int32.not_le.mpr c_1), eq_true c_6, eq_false (Int32.not_lt.mpr c_6), eq_false c_7, eq_false c_8, eq_true (Int32.not_lt.mp c_8), eq_true c_14, eq_false (Int32.not_lt.mpr c_14), eq_true c_15, eq_false (Int32.not_le.mpr c_15), if_true, if_false, true_and, and_true, false_and, and_false, true_or, or_true, false_or, or_false, not_true_eq_false, not_false_eq_true, reduceIte, decide_true, decide_false, Bool.false_eq_true]; exact eF5.symm); simp only [smTake, hT1, smT2, eq_true c_1, eq_false (Int32.not_le.mpr c_1), eq_true c_6, eq_false (Int32.not_lt.mpr c_6), eq_false c_7, eq_false c_8, eq_true (Int32.not_lt.mp c_8), eq_true c_14, eq_false (Int32.not_lt.mpr c_14), eq_true c_15, eq_false (Int32.not_le.mpr c_15), if_true, if_false, true_and, and_true, false_and, and_false, true_or, or_true, false_or, or_false, not_true_eq_false, not_false_eq_true, reduceIte, decide_true, decide_false, Bool.false_eq_true, ← eF5, ← eF19]; done) | (exfalso; simp only [Int32.lt_iff_toInt_lt, Int32.le_iff_toInt_le, ← Int32.toInt_inj, (show Int32.toInt 0 = 0 from rfl), (show Int32.toInt 1 = 1 from rfl), (show Int32.toInt 2 = 2 from rfl), (show Int32.toInt 3 = 3 from rfl), (show Int32.toInt 4 = 4 from rfl), (show Int32.toInt 5 = 5 from rfl), (show Int32.toInt 6 = 6 from rfl), (show Int32.toInt 7 = 7 from rfl), (show Int32.toInt 8 = 8 from rfl), (show Int32.toInt 9 = 9 from rfl), (show Int32.toInt 11 = 11 from rfl), (show Int32.toInt 12 = 12 from rfl), (show Int32.toInt 13 = 13 from rfl), (show Int32.toInt 15 = 15 from rfl), (show Int32.toInt 18 = 18 from rfl), (show Int32.toInt 19 = 19 from rfl)] at c_1 c_6 c_7 c_8 c_14 c_15; omega)), ((gFr.refl.up hU3 hM_0 (by simp)).up hU17 hU3.1 (by simp)), (by first | exact Nat.le_zero.mp hk9 | omega)⟩) dX5_take_179 (Nat.le_of_ble_eq_true rfl) (Nat.le_of_ble_eq_true rfl)
            · exact absurd c_1 c_15
          · refine g_aload_n hC dX5_take_122 0 rfl gRef_r 123 rfl ?_
            refine g_aload_n hC dX5_take_123 0 rfl gRef_r 124 rfl ?_
            refine g_get (v := .int (F4 5)) hC cI4 hU3.1 5 (Nat.le_of_ble_eq_true rfl) q244 rfl dX5_take_124 127 rfl ?_
            refine g_topi (y := s1 5) (by rw [eF5, pk_un (by omega)]) ?_
            refine g_iconst hC dX5_take_127 ki_1 128 rfl ?_
            refine g_ishl hC dX5_take_128 129 rfl ?_
            refine g_iload_n hC dX5_take_129 1 rfl 130 rfl ?_
            refine g_ior hC dX5_take_130 131 rfl ?_
            obtain ⟨F22, eF23⟩ : ∃ z9, z9 = upd F4 5 (((s1 5) <<< (1 &&& 31)) ||| lev) := ⟨_, rfl⟩
            refine g_put hC cI4 hU3.1 5 (Nat.le_of_ble_eq_true rfl) q244 rfl rfl rfl (Nat.le_of_ble_eq_true rfl) dX5_take_131 (fs' := smL G  F22) (by rw [eF23]; exact smL_s5) 134 rfl (fun M20 hU21 => ?_)
            refine g_goto hC dX5_take_134 169 rfl ?_
            refine g_aload_n hC dX5_take_169 0 rfl gRef_r 170 rfl ?_
            refine g_dup hC dX5_take_170 rfl 171 rfl ?_
            refine g_get (v := .int (F22 2)) hC cI4 hU21.1 2 (Nat.le_of_ble_eq_true rfl) q238 rfl dX5_take_171 174 rfl ?_
            refine g_topi (y := s1 2) (by rw [eF23, pk_un (by omega), eF5, pk_un (by omega)]) ?_
            refine g_iconst hC dX5_take_174 ki_1 175 rfl ?_
            refine g_iadd hC dX5_take_175 176 rfl ?_
            obtain ⟨F26, eF27⟩ : ∃ z9, z9 = upd F22 2 ((s1 2) + 1) := ⟨_, rfl⟩
            refine g_put hC cI4 hU21.1 2 (Nat.le_of_ble_eq_true rfl) q238 rfl rfl rfl (Nat.le_of_ble_eq_true rfl) dX5_take_176 (fs' := smL G  F26) (by rw [eF27]; exact smL_s2) 179 rfl (fun M24 hU25 => ?_)
            exact g_vret hC (fun k9 hk9 => ⟨(by first | (rw [hU25.1]; have hT1 : smT1 s1 lev = F4 := (by simp only [smT1, eq_true c_1, eq_false (Int32.not_le.mpr c_1), eq_true c_6, eq_false (Int32.not_lt.mpr c_6), eq_false c_7, eq_false c_8, eq_true (Int32.not_lt.mp c_8), eq_false c_14, eq_true (Int32.not_le.mp c_14), if_true, if_false, true_and, and_true, false_and, and_false, true_or, or_true, false_or, or_false, not_true_eq_false, not_false_eq_true, reduceIte, decide_true, decide_false, Bool.false_eq_true]; exact eF5.symm); simp only [smTake, hT1, smT2, eq_true c_1, eq_false (Int32.not_le.mpr c_1), eq_true c_6, eq_false (Int32.not_lt.mpr c_6), eq_false c_7, eq_false c_8, eq_true (Int32.not_lt.mp c_8), eq_false c_14, eq_true (Int32.not_le.mp c_14), if_true, if_false, true_and, and_true, false_and, and_false, true_or, or_true, false_or, or_false, not_true_eq_false, not_false_eq_true, reduceIte, decide_true, decide_false, Bool.false_eq_true, ← eF5, ← eF23, ← eF27]; done) | (exfalso; simp only [Int32.lt_iff_toInt_lt, Int32.le_iff_toInt_le, ← Int32.toInt_inj, (show Int32.toInt 0 = 0 from rfl), (show Int32.toInt 1 = 1 from rfl), (show Int32.toInt 2 = 2 from rfl), (show Int32.toInt 3 = 3 from rfl), (show Int32.toInt 4 = 4 from rfl), (show Int32.toInt 5 = 5 from rfl), (show Int32.toInt 6 = 6 from rfl), (show Int32.toInt 7 = 7 from rfl), (show Int32.toInt 8 = 8 from rfl), (show Int32.toInt 9 = 9 from rfl), (show Int32.toInt 11 = 11 from rfl), (show Int32.toInt 12 = 12 from rfl), (show Int32.toInt 13 = 13 from rfl), (show Int32.toInt 15 = 15 from rfl), (show Int32.toInt 18 = 18 from rfl), (show Int32.toInt 19 = 19 from rfl)] at c_1 c_6 c_7 c_8 c_14; omega)), (((gFr.refl.up hU3 hM_0 (by simp)).up hU21 hU3.1 (by simp)).up hU25 hU21.1 (by simp)), (by first | exact Nat.le_zero.mp hk9 | omega)⟩) dX5_take_179 (Nat.le_of_ble_eq_true rfl) (Nat.le_of_ble_eq_true rfl)
      · refine g_aload_n hC dX5_take_87 0 rfl gRef_r 88 rfl ?_
        refine g_iload_n hC dX5_take_88 1 rfl 89 rfl ?_
        refine g_iconst hC dX5_take_89 ki_1 90 rfl ?_
        refine g_icmp_ne hC dX5_take_90 97 rfl 93 rfl (fun c_28 => ?_) (fun c_28 => ?_)
        · refine g_iconst hC dX5_take_97 ki_0 98 rfl ?_
          obtain ⟨F31, eF32⟩ : ∃ z9, z9 = upd F4 4 0 := ⟨_, rfl⟩
          refine g_put hC cI4 hU3.1 4 (Nat.le_of_ble_eq_true rfl) q242 rfl (by decide) rfl (Nat.le_of_ble_eq_true rfl) dX5_take_98 (fs' := smL G  F31) (by rw [eF32]; exact smL_s4) 101 rfl (fun M29 hU30 => ?_)
          refine g_goto hC dX5_take_101 169 rfl ?_
          refine g_aload_n hC dX5_take_169 0 rfl gRef_r 170 rfl ?_
          refine g_dup hC dX5_take_170 rfl 171 rfl ?_
          refine g_get (v := .int (F31 2)) hC cI4 hU30.1 2 (Nat.le_of_ble_eq_true rfl) q238 rfl dX5_take_171 174 rfl ?_
          refine g_topi (y := s1 2) (by rw [eF32, pk_un (by omega), eF5, pk_un (by omega)]) ?_
          refine g_iconst hC dX5_take_174 ki_1 175 rfl ?_
          refine g_iadd hC dX5_take_175 176 rfl ?_
          obtain ⟨F35, eF36⟩ : ∃ z9, z9 = upd F31 2 ((s1 2) + 1) := ⟨_, rfl⟩
          refine g_put hC cI4 hU30.1 2 (Nat.le_of_ble_eq_true rfl) q238 rfl rfl rfl (Nat.le_of_ble_eq_true rfl) dX5_take_176 (fs' := smL G  F35) (by rw [eF36]; exact smL_s2) 179 rfl (fun M33 hU34 => ?_)
          exact g_vret hC (fun k9 hk9 => ⟨(by first | (rw [hU34.1]; have hT1 : smT1 s1 lev = F4 := (by simp only [smT1, eq_true c_1, eq_false (Int32.not_le.mpr c_1), eq_true c_6, eq_false (Int32.not_lt.mpr c_6), eq_true c_7, eq_false c_28, if_true, if_false, true_and, and_true, false_and, and_false, true_or, or_true, false_or, or_false, not_true_eq_false, not_false_eq_true, reduceIte, decide_true, decide_false, Bool.false_eq_true]; exact eF5.symm); simp only [smTake, hT1, smT2, eq_true c_1, eq_false (Int32.not_le.mpr c_1), eq_true c_6, eq_false (Int32.not_lt.mpr c_6), eq_true c_7, eq_false c_28, if_true, if_false, true_and, and_true, false_and, and_false, true_or, or_true, false_or, or_false, not_true_eq_false, not_false_eq_true, reduceIte, decide_true, decide_false, Bool.false_eq_true, ← eF5, ← eF32, ← eF36]; done) | (exfalso; simp only [Int32.lt_iff_toInt_lt, Int32.le_iff_toInt_le, ← Int32.toInt_inj, (show Int32.toInt 0 = 0 from rfl), (show Int32.toInt 1 = 1 from rfl), (show Int32.toInt 2 = 2 from rfl), (show Int32.toInt 3 = 3 from rfl), (show Int32.toInt 4 = 4 from rfl), (show Int32.toInt 5 = 5 from rfl), (show Int32.toInt 6 = 6 from rfl), (show Int32.toInt 7 = 7 from rfl), (show Int32.toInt 8 = 8 from rfl), (show Int32.toInt 9 = 9 from rfl), (show Int32.toInt 11 = 11 from rfl), (show Int32.toInt 12 = 12 from rfl), (show Int32.toInt 13 = 13 from rfl), (show Int32.toInt 15 = 15 from rfl), (show Int32.toInt 18 = 18 from rfl), (show Int32.toInt 19 = 19 from rfl)] at c_1 c_6 c_7 c_28; omega)), (((gFr.refl.up hU3 hM_0 (by simp)).up hU30 hU3.1 (by simp)).up hU34 hU30.1 (by simp)), (by first | exact Nat.le_zero.mp hk9 | omega)⟩) dX5_take_179 (Nat.le_of_ble_eq_true rfl) (Nat.le_of_ble_eq_true rfl)
        · refine g_iconst hC dX5_take_93 ki_1 94 rfl ?_
          refine g_goto hC dX5_take_94 98 rfl ?_
          obtain ⟨F39, eF40⟩ : ∃ z9, z9 = upd F4 4 1 := ⟨_, rfl⟩
          refine g_put hC cI4 hU3.1 4 (Nat.le_of_ble_eq_true rfl) q242 rfl (by decide) rfl (Nat.le_of_ble_eq_true rfl) dX5_take_98 (fs' := smL G  F39) (by rw [eF40]; exact smL_s4) 101 rfl (fun M37 hU38 => ?_)
          refine g_goto hC dX5_take_101 169 rfl ?_
          refine g_aload_n hC dX5_take_169 0 rfl gRef_r 170 rfl ?_
          refine g_dup hC dX5_take_170 rfl 171 rfl ?_
          refine g_get (v := .int (F39 2)) hC cI4 hU38.1 2 (Nat.le_of_ble_eq_true rfl) q238 rfl dX5_take_171 174 rfl ?_
          refine g_topi (y := s1 2) (by rw [eF40, pk_un (by omega), eF5, pk_un (by omega)]) ?_
          refine g_iconst hC dX5_take_174 ki_1 175 rfl ?_
          refine g_iadd hC dX5_take_175 176 rfl ?_
          obtain ⟨F43, eF44⟩ : ∃ z9, z9 = upd F39 2 ((s1 2) + 1) := ⟨_, rfl⟩
          refine g_put hC cI4 hU38.1 2 (Nat.le_of_ble_eq_true rfl) q238 rfl rfl rfl (Nat.le_of_ble_eq_true rfl) dX5_take_176 (fs' := smL G  F43) (by rw [eF44]; exact smL_s2) 179 rfl (fun M41 hU42 => ?_)
          exact g_vret hC (fun k9 hk9 => ⟨(by first | (rw [hU42.1]; have hT1 : smT1 s1 lev = F4 := (by simp only [smT1, eq_true c_1, eq_false (Int32.not_le.mpr c_1), eq_true c_6, eq_false (Int32.not_lt.mpr c_6), eq_true c_7, eq_true c_28, if_true, if_false, true_and, and_true, false_and, and_false, true_or, or_true, false_or, or_false, not_true_eq_false, not_false_eq_true, reduceIte, decide_true, decide_false, Bool.false_eq_true]; exact eF5.symm); simp only [smTake, hT1, smT2, eq_true c_1, eq_false (Int32.not_le.mpr c_1), eq_true c_6, eq_false (Int32.not_lt.mpr c_6), eq_true c_7, eq_true c_28, if_true, if_false, true_and, and_true, false_and, and_false, true_or, or_true, false_or, or_false, not_true_eq_false, not_false_eq_true, reduceIte, decide_true, decide_false, Bool.false_eq_true, ← eF5, ← eF40, ← eF44]; done) | (exfalso; simp only [Int32.lt_iff_toInt_lt, Int32.le_iff_toInt_le, ← Int32.toInt_inj, (show Int32.toInt 0 = 0 from rfl), (show Int32.toInt 1 = 1 from rfl), (show Int32.toInt 2 = 2 from rfl), (show Int32.toInt 3 = 3 from rfl), (show Int32.toInt 4 = 4 from rfl), (show Int32.toInt 5 = 5 from rfl), (show Int32.toInt 6 = 6 from rfl), (show Int32.toInt 7 = 7 from rfl), (show Int32.toInt 8 = 8 from rfl), (show Int32.toInt 9 = 9 from rfl), (show Int32.toInt 11 = 11 from rfl), (show Int32.toInt 12 = 12 from rfl), (show Int32.toInt 13 = 13 from rfl), (show Int32.toInt 15 = 15 from rfl), (show Int32.toInt 18 = 18 from rfl), (show Int32.toInt 19 = 19 from rfl)] at c_1 c_6 c_7 c_28; omega)), (((gFr.refl.up hU3 hM_0 (by simp)).up hU38 hU3.1 (by simp)).up hU42 hU38.1 (by simp)), (by first | exact Nat.le_zero.mp hk9 | omega)⟩) dX5_take_179 (Nat.le_of_ble_eq_true rfl) (Nat.le_of_ble_eq_true rfl)
    · refine g_aload_n hC dX5_take_54 0 rfl gRef_r 55 rfl ?_
      refine g_get (v := .int (F4 2)) hC cI4 hU3.1 2 (Nat.le_of_ble_eq_true rfl) q238 rfl dX5_take_55 58 rfl ?_
      refine g_topi (y := s1 2) (by rw [eF5, pk_un (by omega)]) ?_
      refine g_bipush hC dX5_take_58 kb_12 60 rfl ?_
      refine g_icmp_ge hC dX5_take_60 78 rfl 63 rfl (fun c_45 => ?_) (fun c_45 => ?_)
      · refine g_aload_n hC dX5_take_78 0 rfl gRef_r 79 rfl ?_
        refine g_get (v := .int (F4 2)) hC cI4 hU3.1 2 (Nat.le_of_ble_eq_true rfl) q238 rfl dX5_take_79 82 rfl ?_
        refine g_topi (y := s1 2) (by rw [eF5, pk_un (by omega)]) ?_
        refine g_bipush hC dX5_take_82 kb_12 84 rfl ?_
        refine g_icmp_ne hC dX5_take_84 104 rfl 87 rfl (fun c_46 => ?_) (fun c_46 => ?_)
        · refine g_aload_n hC dX5_take_104 0 rfl gRef_r 105 rfl ?_
          refine g_get (v := .int (F4 2)) hC cI4 hU3.1 2 (Nat.le_of_ble_eq_true rfl) q238 rfl dX5_take_105 108 rfl ?_
          refine g_topi (y := s1 2) (by rw [eF5, pk_un (by omega)]) ?_
          refine g_bipush hC dX5_take_108 kb_15 110 rfl ?_
          refine g_icmp_lt hC dX5_take_110 137 rfl 113 rfl (fun c_47 => ?_) (fun c_47 => ?_)
          · refine g_aload_n hC dX5_take_137 0 rfl gRef_r 138 rfl ?_
            refine g_get (v := .int (F4 2)) hC cI4 hU3.1 2 (Nat.le_of_ble_eq_true rfl) q238 rfl dX5_take_138 141 rfl ?_
            refine g_topi (y := s1 2) (by rw [eF5, pk_un (by omega)]) ?_
            refine g_bipush hC dX5_take_141 kb_19 143 rfl ?_
            refine g_icmp_lt hC dX5_take_143 169 rfl 146 rfl (fun c_48 => ?_) (fun c_48 => ?_)
            · refine g_aload_n hC dX5_take_169 0 rfl gRef_r 170 rfl ?_
              refine g_dup hC dX5_take_170 rfl 171 rfl ?_
              refine g_get (v := .int (F4 2)) hC cI4 hU3.1 2 (Nat.le_of_ble_eq_true rfl) q238 rfl dX5_take_171 174 rfl ?_
              refine g_topi (y := s1 2) (by rw [eF5, pk_un (by omega)]) ?_
              refine g_iconst hC dX5_take_174 ki_1 175 rfl ?_
              refine g_iadd hC dX5_take_175 176 rfl ?_
              obtain ⟨F51, eF52⟩ : ∃ z9, z9 = upd F4 2 ((s1 2) + 1) := ⟨_, rfl⟩
              refine g_put hC cI4 hU3.1 2 (Nat.le_of_ble_eq_true rfl) q238 rfl rfl rfl (Nat.le_of_ble_eq_true rfl) dX5_take_176 (fs' := smL G  F51) (by rw [eF52]; exact smL_s2) 179 rfl (fun M49 hU50 => ?_)
              exact g_vret hC (fun k9 hk9 => ⟨(by first | (rw [hU50.1]; have hT1 : smT1 s1 lev = F4 := (by simp only [smT1, eq_true c_1, eq_false (Int32.not_le.mpr c_1), eq_false c_6, eq_true (Int32.not_le.mp c_6), eq_true c_45, eq_false (Int32.not_lt.mpr c_45), eq_false c_46, eq_true c_47, eq_false (Int32.not_le.mpr c_47), eq_true c_48, eq_false (Int32.not_le.mpr c_48), if_true, if_false, true_and, and_true, false_and, and_false, true_or, or_true, false_or, or_false, not_true_eq_false, not_false_eq_true, reduceIte, decide_true, decide_false, Bool.false_eq_true]; exact eF5.symm); simp only [smTake, hT1, smT2, eq_true c_1, eq_false (Int32.not_le.mpr c_1), eq_false c_6, eq_true (Int32.not_le.mp c_6), eq_true c_45, eq_false (Int32.not_lt.mpr c_45), eq_false c_46, eq_true c_47, eq_false (Int32.not_le.mpr c_47), eq_true c_48, eq_false (Int32.not_le.mpr c_48), if_true, if_false, true_and, and_true, false_and, and_false, true_or, or_true, false_or, or_false, not_true_eq_false, not_false_eq_true, reduceIte, decide_true, decide_false, Bool.false_eq_true, ← eF5, ← eF52]; done) | (exfalso; simp only [Int32.lt_iff_toInt_lt, Int32.le_iff_toInt_le, ← Int32.toInt_inj, (show Int32.toInt 0 = 0 from rfl), (show Int32.toInt 1 = 1 from rfl), (show Int32.toInt 2 = 2 from rfl), (show Int32.toInt 3 = 3 from rfl), (show Int32.toInt 4 = 4 from rfl), (show Int32.toInt 5 = 5 from rfl), (show Int32.toInt 6 = 6 from rfl), (show Int32.toInt 7 = 7 from rfl), (show Int32.toInt 8 = 8 from rfl), (show Int32.toInt 9 = 9 from rfl), (show Int32.toInt 11 = 11 from rfl), (show Int32.toInt 12 = 12 from rfl), (show Int32.toInt 13 = 13 from rfl), (show Int32.toInt 15 = 15 from rfl), (show Int32.toInt 18 = 18 from rfl), (show Int32.toInt 19 = 19 from rfl)] at c_1 c_6 c_45 c_46 c_47 c_48; omega)), ((gFr.refl.up hU3 hM_0 (by simp)).up hU50 hU3.1 (by simp)), (by first | exact Nat.le_zero.mp hk9 | omega)⟩) dX5_take_179 (Nat.le_of_ble_eq_true rfl) (Nat.le_of_ble_eq_true rfl)
            · exact absurd c_1 c_48
          · refine g_aload_n hC dX5_take_113 0 rfl gRef_r 114 rfl ?_
            refine g_get (v := .int (F4 2)) hC cI4 hU3.1 2 (Nat.le_of_ble_eq_true rfl) q238 rfl dX5_take_114 117 rfl ?_
            refine g_topi (y := s1 2) (by rw [eF5, pk_un (by omega)]) ?_
            refine g_bipush hC dX5_take_117 kb_19 119 rfl ?_
            refine g_icmp_ge hC dX5_take_119 137 rfl 122 rfl (fun c_53 => ?_) (fun c_53 => ?_)
            · refine g_aload_n hC dX5_take_137 0 rfl gRef_r 138 rfl ?_
              refine g_get (v := .int (F4 2)) hC cI4 hU3.1 2 (Nat.le_of_ble_eq_true rfl) q238 rfl dX5_take_138 141 rfl ?_
              refine g_topi (y := s1 2) (by rw [eF5, pk_un (by omega)]) ?_
              refine g_bipush hC dX5_take_141 kb_19 143 rfl ?_
              refine g_icmp_lt hC dX5_take_143 169 rfl 146 rfl (fun c_54 => ?_) (fun c_54 => ?_)
              · refine g_aload_n hC dX5_take_169 0 rfl gRef_r 170 rfl ?_
                refine g_dup hC dX5_take_170 rfl 171 rfl ?_
                refine g_get (v := .int (F4 2)) hC cI4 hU3.1 2 (Nat.le_of_ble_eq_true rfl) q238 rfl dX5_take_171 174 rfl ?_
                refine g_topi (y := s1 2) (by rw [eF5, pk_un (by omega)]) ?_
                refine g_iconst hC dX5_take_174 ki_1 175 rfl ?_
                refine g_iadd hC dX5_take_175 176 rfl ?_
                obtain ⟨F57, eF58⟩ : ∃ z9, z9 = upd F4 2 ((s1 2) + 1) := ⟨_, rfl⟩
                refine g_put hC cI4 hU3.1 2 (Nat.le_of_ble_eq_true rfl) q238 rfl rfl rfl (Nat.le_of_ble_eq_true rfl) dX5_take_176 (fs' := smL G  F57) (by rw [eF58]; exact smL_s2) 179 rfl (fun M55 hU56 => ?_)
                exact g_vret hC (fun k9 hk9 => ⟨(by first | (rw [hU56.1]; have hT1 : smT1 s1 lev = F4 := (by simp only [smT1, eq_true c_1, eq_false (Int32.not_le.mpr c_1), eq_false c_6, eq_true (Int32.not_le.mp c_6), eq_true c_45, eq_false (Int32.not_lt.mpr c_45), eq_false c_46, eq_false c_47, eq_true (Int32.not_lt.mp c_47), eq_true c_53, eq_false (Int32.not_lt.mpr c_53), eq_true c_54, eq_false (Int32.not_le.mpr c_54), if_true, if_false, true_and, and_true, false_and, and_false, true_or, or_true, false_or, or_false, not_true_eq_false, not_false_eq_true, reduceIte, decide_true, decide_false, Bool.false_eq_true]; exact eF5.symm); simp only [smTake, hT1, smT2, eq_true c_1, eq_false (Int32.not_le.mpr c_1), eq_false c_6, eq_true (Int32.not_le.mp c_6), eq_true c_45, eq_false (Int32.not_lt.mpr c_45), eq_false c_46, eq_false c_47, eq_true (Int32.not_lt.mp c_47), eq_true c_53, eq_false (Int32.not_lt.mpr c_53), eq_true c_54, eq_false (Int32.not_le.mpr c_54), if_true, if_false, true_and, and_true, false_and, and_false, true_or, or_true, false_or, or_false, not_true_eq_false, not_false_eq_true, reduceIte, decide_true, decide_false, Bool.false_eq_true, ← eF5, ← eF58]; done) | (exfalso; simp only [Int32.lt_iff_toInt_lt, Int32.le_iff_toInt_le, ← Int32.toInt_inj, (show Int32.toInt 0 = 0 from rfl), (show Int32.toInt 1 = 1 from rfl), (show Int32.toInt 2 = 2 from rfl), (show Int32.toInt 3 = 3 from rfl), (show Int32.toInt 4 = 4 from rfl), (show Int32.toInt 5 = 5 from rfl), (show Int32.toInt 6 = 6 from rfl), (show Int32.toInt 7 = 7 from rfl), (show Int32.toInt 8 = 8 from rfl), (show Int32.toInt 9 = 9 from rfl), (show Int32.toInt 11 = 11 from rfl), (show Int32.toInt 12 = 12 from rfl), (show Int32.toInt 13 = 13 from rfl), (show Int32.toInt 15 = 15 from rfl), (show Int32.toInt 18 = 18 from rfl), (show Int32.toInt 19 = 19 from rfl)] at c_1 c_6 c_45 c_46 c_47 c_53 c_54; omega)), ((gFr.refl.up hU3 hM_0 (by simp)).up hU56 hU3.1 (by simp)), (by first | exact Nat.le_zero.mp hk9 | omega)⟩) dX5_take_179 (Nat.le_of_ble_eq_true rfl) (Nat.le_of_ble_eq_true rfl)
              · exact absurd c_1 c_54
            · refine g_aload_n hC dX5_take_122 0 rfl gRef_r 123 rfl ?_
              refine g_aload_n hC dX5_take_123 0 rfl gRef_r 124 rfl ?_
              refine g_get (v := .int (F4 5)) hC cI4 hU3.1 5 (Nat.le_of_ble_eq_true rfl) q244 rfl dX5_take_124 127 rfl ?_
              refine g_topi (y := s1 5) (by rw [eF5, pk_un (by omega)]) ?_
              refine g_iconst hC dX5_take_127 ki_1 128 rfl ?_
              refine g_ishl hC dX5_take_128 129 rfl ?_
              refine g_iload_n hC dX5_take_129 1 rfl 130 rfl ?_
              refine g_ior hC dX5_take_130 131 rfl ?_
              obtain ⟨F61, eF62⟩ : ∃ z9, z9 = upd F4 5 (((s1 5) <<< (1 &&& 31)) ||| lev) := ⟨_, rfl⟩
              refine g_put hC cI4 hU3.1 5 (Nat.le_of_ble_eq_true rfl) q244 rfl rfl rfl (Nat.le_of_ble_eq_true rfl) dX5_take_131 (fs' := smL G  F61) (by rw [eF62]; exact smL_s5) 134 rfl (fun M59 hU60 => ?_)
              refine g_goto hC dX5_take_134 169 rfl ?_
              refine g_aload_n hC dX5_take_169 0 rfl gRef_r 170 rfl ?_
              refine g_dup hC dX5_take_170 rfl 171 rfl ?_
              refine g_get (v := .int (F61 2)) hC cI4 hU60.1 2 (Nat.le_of_ble_eq_true rfl) q238 rfl dX5_take_171 174 rfl ?_
              refine g_topi (y := s1 2) (by rw [eF62, pk_un (by omega), eF5, pk_un (by omega)]) ?_
              refine g_iconst hC dX5_take_174 ki_1 175 rfl ?_
              refine g_iadd hC dX5_take_175 176 rfl ?_
              obtain ⟨F65, eF66⟩ : ∃ z9, z9 = upd F61 2 ((s1 2) + 1) := ⟨_, rfl⟩
              refine g_put hC cI4 hU60.1 2 (Nat.le_of_ble_eq_true rfl) q238 rfl rfl rfl (Nat.le_of_ble_eq_true rfl) dX5_take_176 (fs' := smL G  F65) (by rw [eF66]; exact smL_s2) 179 rfl (fun M63 hU64 => ?_)
              exact g_vret hC (fun k9 hk9 => ⟨(by first | (rw [hU64.1]; have hT1 : smT1 s1 lev = F4 := (by simp only [smT1, eq_true c_1, eq_false (Int32.not_le.mpr c_1), eq_false c_6, eq_true (Int32.not_le.mp c_6), eq_true c_45, eq_false (Int32.not_lt.mpr c_45), eq_false c_46, eq_false c_47, eq_true (Int32.not_lt.mp c_47), eq_false c_53, eq_true (Int32.not_le.mp c_53), if_true, if_false, true_and, and_true, false_and, and_false, true_or, or_true, false_or, or_false, not_true_eq_false, not_false_eq_true, reduceIte, decide_true, decide_false, Bool.false_eq_true]; exact eF5.symm); simp only [smTake, hT1, smT2, eq_true c_1, eq_false (Int32.not_le.mpr c_1), eq_false c_6, eq_true (Int32.not_le.mp c_6), eq_true c_45, eq_false (Int32.not_lt.mpr c_45), eq_false c_46, eq_false c_47, eq_true (Int32.not_lt.mp c_47), eq_false c_53, eq_true (Int32.not_le.mp c_53), if_true, if_false, true_and, and_true, false_and, and_false, true_or, or_true, false_or, or_false, not_true_eq_false, not_false_eq_true, reduceIte, decide_true, decide_false, Bool.false_eq_true, ← eF5, ← eF62, ← eF66]; done) | (exfalso; simp only [Int32.lt_iff_toInt_lt, Int32.le_iff_toInt_le, ← Int32.toInt_inj, (show Int32.toInt 0 = 0 from rfl), (show Int32.toInt 1 = 1 from rfl), (show Int32.toInt 2 = 2 from rfl), (show Int32.toInt 3 = 3 from rfl), (show Int32.toInt 4 = 4 from rfl), (show Int32.toInt 5 = 5 from rfl), (show Int32.toInt 6 = 6 from rfl), (show Int32.toInt 7 = 7 from rfl), (show Int32.toInt 8 = 8 from rfl), (show Int32.toInt 9 = 9 from rfl), (show Int32.toInt 11 = 11 from rfl), (show Int32.toInt 12 = 12 from rfl), (show Int32.toInt 13 = 13 from rfl), (show Int32.toInt 15 = 15 from rfl), (show Int32.toInt 18 = 18 from rfl), (show Int32.toInt 19 = 19 from rfl)] at c_1 c_6 c_45 c_46 c_47 c_53; omega)), (((gFr.refl.up hU3 hM_0 (by simp)).up hU60 hU3.1 (by simp)).up hU64 hU60.1 (by simp)), (by first | exact Nat.le_zero.mp hk9 | omega)⟩) dX5_take_179 (Nat.le_of_ble_eq_true rfl) (Nat.le_of_ble_eq_true rfl)
        · refine g_aload_n hC dX5_take_87 0 rfl gRef_r 88 rfl ?_
          refine g_iload_n hC dX5_take_88 1 rfl 89 rfl ?_
          refine g_iconst hC dX5_take_89 ki_1 90 rfl ?_
          refine g_icmp_ne hC dX5_take_90 97 rfl 93 rfl (fun c_67 => ?_) (fun c_67 => ?_)
          · refine g_iconst hC dX5_take_97 ki_0 98 rfl ?_
            obtain ⟨F70, eF71⟩ : ∃ z9, z9 = upd F4 4 0 := ⟨_, rfl⟩
            refine g_put hC cI4 hU3.1 4 (Nat.le_of_ble_eq_true rfl) q242 rfl (by decide) rfl (Nat.le_of_ble_eq_true rfl) dX5_take_98 (fs' := smL G  F70) (by rw [eF71]; exact smL_s4) 101 rfl (fun M68 hU69 => ?_)
            refine g_goto hC dX5_take_101 169 rfl ?_
            refine g_aload_n hC dX5_take_169 0 rfl gRef_r 170 rfl ?_
            refine g_dup hC dX5_take_170 rfl 171 rfl ?_
            refine g_get (v := .int (F70 2)) hC cI4 hU69.1 2 (Nat.le_of_ble_eq_true rfl) q238 rfl dX5_take_171 174 rfl ?_
            refine g_topi (y := s1 2) (by rw [eF71, pk_un (by omega), eF5, pk_un (by omega)]) ?_
            refine g_iconst hC dX5_take_174 ki_1 175 rfl ?_
            refine g_iadd hC dX5_take_175 176 rfl ?_
            obtain ⟨F74, eF75⟩ : ∃ z9, z9 = upd F70 2 ((s1 2) + 1) := ⟨_, rfl⟩
            refine g_put hC cI4 hU69.1 2 (Nat.le_of_ble_eq_true rfl) q238 rfl rfl rfl (Nat.le_of_ble_eq_true rfl) dX5_take_176 (fs' := smL G  F74) (by rw [eF75]; exact smL_s2) 179 rfl (fun M72 hU73 => ?_)
            exact g_vret hC (fun k9 hk9 => ⟨(by first | (rw [hU73.1]; have hT1 : smT1 s1 lev = F4 := (by simp only [smT1, eq_true c_1, eq_false (Int32.not_le.mpr c_1), eq_false c_6, eq_true (Int32.not_le.mp c_6), eq_true c_45, eq_false (Int32.not_lt.mpr c_45), eq_true c_46, eq_false c_67, if_true, if_false, true_and, and_true, false_and, and_false, true_or, or_true, false_or, or_false, not_true_eq_false, not_false_eq_true, reduceIte, decide_true, decide_false, Bool.false_eq_true]; exact eF5.symm); simp only [smTake, hT1, smT2, eq_true c_1, eq_false (Int32.not_le.mpr c_1), eq_false c_6, eq_true (Int32.not_le.mp c_6), eq_true c_45, eq_false (Int32.not_lt.mpr c_45), eq_true c_46, eq_false c_67, if_true, if_false, true_and, and_true, false_and, and_false, true_or, or_true, false_or, or_false, not_true_eq_false, not_false_eq_true, reduceIte, decide_true, decide_false, Bool.false_eq_true, ← eF5, ← eF71, ← eF75]; done) | (exfalso; simp only [Int32.lt_iff_toInt_lt, Int32.le_iff_toInt_le, ← Int32.toInt_inj, (show Int32.toInt 0 = 0 from rfl), (show Int32.toInt 1 = 1 from rfl), (show Int32.toInt 2 = 2 from rfl), (show Int32.toInt 3 = 3 from rfl), (show Int32.toInt 4 = 4 from rfl), (show Int32.toInt 5 = 5 from rfl), (show Int32.toInt 6 = 6 from rfl), (show Int32.toInt 7 = 7 from rfl), (show Int32.toInt 8 = 8 from rfl), (show Int32.toInt 9 = 9 from rfl), (show Int32.toInt 11 = 11 from rfl), (show Int32.toInt 12 = 12 from rfl), (show Int32.toInt 13 = 13 from rfl), (show Int32.toInt 15 = 15 from rfl), (show Int32.toInt 18 = 18 from rfl), (show Int32.toInt 19 = 19 from rfl)] at c_1 c_6 c_45 c_46 c_67; omega)), (((gFr.refl.up hU3 hM_0 (by simp)).up hU69 hU3.1 (by simp)).up hU73 hU69.1 (by simp)), (by first | exact Nat.le_zero.mp hk9 | omega)⟩) dX5_take_179 (Nat.le_of_ble_eq_true rfl) (Nat.le_of_ble_eq_true rfl)
          · refine g_iconst hC dX5_take_93 ki_1 94 rfl ?_
            refine g_goto hC dX5_take_94 98 rfl ?_
            obtain ⟨F78, eF79⟩ : ∃ z9, z9 = upd F4 4 1 := ⟨_, rfl⟩
            refine g_put hC cI4 hU3.1 4 (Nat.le_of_ble_eq_true rfl) q242 rfl (by decide) rfl (Nat.le_of_ble_eq_true rfl) dX5_take_98 (fs' := smL G  F78) (by rw [eF79]; exact smL_s4) 101 rfl (fun M76 hU77 => ?_)
            refine g_goto hC dX5_take_101 169 rfl ?_
            refine g_aload_n hC dX5_take_169 0 rfl gRef_r 170 rfl ?_
            refine g_dup hC dX5_take_170 rfl 171 rfl ?_
            refine g_get (v := .int (F78 2)) hC cI4 hU77.1 2 (Nat.le_of_ble_eq_true rfl) q238 rfl dX5_take_171 174 rfl ?_
            refine g_topi (y := s1 2) (by rw [eF79, pk_un (by omega), eF5, pk_un (by omega)]) ?_
            refine g_iconst hC dX5_take_174 ki_1 175 rfl ?_
            refine g_iadd hC dX5_take_175 176 rfl ?_
            obtain ⟨F82, eF83⟩ : ∃ z9, z9 = upd F78 2 ((s1 2) + 1) := ⟨_, rfl⟩
            refine g_put hC cI4 hU77.1 2 (Nat.le_of_ble_eq_true rfl) q238 rfl rfl rfl (Nat.le_of_ble_eq_true rfl) dX5_take_176 (fs' := smL G  F82) (by rw [eF83]; exact smL_s2) 179 rfl (fun M80 hU81 => ?_)
            exact g_vret hC (fun k9 hk9 => ⟨(by first | (rw [hU81.1]; have hT1 : smT1 s1 lev = F4 := (by simp only [smT1, eq_true c_1, eq_false (Int32.not_le.mpr c_1), eq_false c_6, eq_true (Int32.not_le.mp c_6), eq_true c_45, eq_false (Int32.not_lt.mpr c_45), eq_true c_46, eq_true c_67, if_true, if_false, true_and, and_true, false_and, and_false, true_or, or_true, false_or, or_false, not_true_eq_false, not_false_eq_true, reduceIte, decide_true, decide_false, Bool.false_eq_true]; exact eF5.symm); simp only [smTake, hT1, smT2, eq_true c_1, eq_false (Int32.not_le.mpr c_1), eq_false c_6, eq_true (Int32.not_le.mp c_6), eq_true c_45, eq_false (Int32.not_lt.mpr c_45), eq_true c_46, eq_true c_67, if_true, if_false, true_and, and_true, false_and, and_false, true_or, or_true, false_or, or_false, not_true_eq_false, not_false_eq_true, reduceIte, decide_true, decide_false, Bool.false_eq_true, ← eF5, ← eF79, ← eF83]; done) | (exfalso; simp only [Int32.lt_iff_toInt_lt, Int32.le_iff_toInt_le, ← Int32.toInt_inj, (show Int32.toInt 0 = 0 from rfl), (show Int32.toInt 1 = 1 from rfl), (show Int32.toInt 2 = 2 from rfl), (show Int32.toInt 3 = 3 from rfl), (show Int32.toInt 4 = 4 from rfl), (show Int32.toInt 5 = 5 from rfl), (show Int32.toInt 6 = 6 from rfl), (show Int32.toInt 7 = 7 from rfl), (show Int32.toInt 8 = 8 from rfl), (show Int32.toInt 9 = 9 from rfl), (show Int32.toInt 11 = 11 from rfl), (show Int32.toInt 12 = 12 from rfl), (show Int32.toInt 13 = 13 from rfl), (show Int32.toInt 15 = 15 from rfl), (show Int32.toInt 18 = 18 from rfl), (show Int32.toInt 19 = 19 from rfl)] at c_1 c_6 c_45 c_46 c_67; omega)), (((gFr.refl.up hU3 hM_0 (by simp)).up hU77 hU3.1 (by simp)).up hU81 hU77.1 (by simp)), (by first | exact Nat.le_zero.mp hk9 | omega)⟩) dX5_take_179 (Nat.le_of_ble_eq_true rfl) (Nat.le_of_ble_eq_true rfl)
      · refine g_aload_n hC dX5_take_63 0 rfl gRef_r 64 rfl ?_
        refine g_aload_n hC dX5_take_64 0 rfl gRef_r 65 rfl ?_
        refine g_get (v := .int (F4 3)) hC cI4 hU3.1 3 (Nat.le_of_ble_eq_true rfl) q240 rfl dX5_take_65 68 rfl ?_
        refine g_topi (y := s1 3) (by rw [eF5, pk_un (by omega)]) ?_
        refine g_iconst hC dX5_take_68 ki_1 69 rfl ?_
        refine g_ishl hC dX5_take_69 70 rfl ?_
        refine g_iload_n hC dX5_take_70 1 rfl 71 rfl ?_
        refine g_ior hC dX5_take_71 72 rfl ?_
        obtain ⟨F86, eF87⟩ : ∃ z9, z9 = upd F4 3 (((s1 3) <<< (1 &&& 31)) ||| lev) := ⟨_, rfl⟩
        refine g_put hC cI4 hU3.1 3 (Nat.le_of_ble_eq_true rfl) q240 rfl rfl rfl (Nat.le_of_ble_eq_true rfl) dX5_take_72 (fs' := smL G  F86) (by rw [eF87]; exact smL_s3) 75 rfl (fun M84 hU85 => ?_)
        refine g_goto hC dX5_take_75 169 rfl ?_
        refine g_aload_n hC dX5_take_169 0 rfl gRef_r 170 rfl ?_
        refine g_dup hC dX5_take_170 rfl 171 rfl ?_
        refine g_get (v := .int (F86 2)) hC cI4 hU85.1 2 (Nat.le_of_ble_eq_true rfl) q238 rfl dX5_take_171 174 rfl ?_
        refine g_topi (y := s1 2) (by rw [eF87, pk_un (by omega), eF5, pk_un (by omega)]) ?_
        refine g_iconst hC dX5_take_174 ki_1 175 rfl ?_
        refine g_iadd hC dX5_take_175 176 rfl ?_
        obtain ⟨F90, eF91⟩ : ∃ z9, z9 = upd F86 2 ((s1 2) + 1) := ⟨_, rfl⟩
        refine g_put hC cI4 hU85.1 2 (Nat.le_of_ble_eq_true rfl) q238 rfl rfl rfl (Nat.le_of_ble_eq_true rfl) dX5_take_176 (fs' := smL G  F90) (by rw [eF91]; exact smL_s2) 179 rfl (fun M88 hU89 => ?_)
        exact g_vret hC (fun k9 hk9 => ⟨(by first | (rw [hU89.1]; have hT1 : smT1 s1 lev = F4 := (by simp only [smT1, eq_true c_1, eq_false (Int32.not_le.mpr c_1), eq_false c_6, eq_true (Int32.not_le.mp c_6), eq_false c_45, eq_true (Int32.not_le.mp c_45), if_true, if_false, true_and, and_true, false_and, and_false, true_or, or_true, false_or, or_false, not_true_eq_false, not_false_eq_true, reduceIte, decide_true, decide_false, Bool.false_eq_true]; exact eF5.symm); simp only [smTake, hT1, smT2, eq_true c_1, eq_false (Int32.not_le.mpr c_1), eq_false c_6, eq_true (Int32.not_le.mp c_6), eq_false c_45, eq_true (Int32.not_le.mp c_45), if_true, if_false, true_and, and_true, false_and, and_false, true_or, or_true, false_or, or_false, not_true_eq_false, not_false_eq_true, reduceIte, decide_true, decide_false, Bool.false_eq_true, ← eF5, ← eF87, ← eF91]; done) | (exfalso; simp only [Int32.lt_iff_toInt_lt, Int32.le_iff_toInt_le, ← Int32.toInt_inj, (show Int32.toInt 0 = 0 from rfl), (show Int32.toInt 1 = 1 from rfl), (show Int32.toInt 2 = 2 from rfl), (show Int32.toInt 3 = 3 from rfl), (show Int32.toInt 4 = 4 from rfl), (show Int32.toInt 5 = 5 from rfl), (show Int32.toInt 6 = 6 from rfl), (show Int32.toInt 7 = 7 from rfl), (show Int32.toInt 8 = 8 from rfl), (show Int32.toInt 9 = 9 from rfl), (show Int32.toInt 11 = 11 from rfl), (show Int32.toInt 12 = 12 from rfl), (show Int32.toInt 13 = 13 from rfl), (show Int32.toInt 15 = 15 from rfl), (show Int32.toInt 18 = 18 from rfl), (show Int32.toInt 19 = 19 from rfl)] at c_1 c_6 c_45; omega)), (((gFr.refl.up hU3 hM_0 (by simp)).up hU85 hU3.1 (by simp)).up hU89 hU85.1 (by simp)), (by first | exact Nat.le_zero.mp hk9 | omega)⟩) dX5_take_179 (Nat.le_of_ble_eq_true rfl) (Nat.le_of_ble_eq_true rfl)
  · refine g_aload_n hC dX5_take_9 0 rfl gRef_r 10 rfl ?_
    refine g_get (v := .int (s1 2)) hC cI4 hM_0 2 (Nat.le_of_ble_eq_true rfl) q238 rfl dX5_take_10 13 rfl ?_
    refine g_aload_n hC dX5_take_13 0 rfl gRef_r 14 rfl ?_
    refine g_calliP (g_V (As := []) (rest := [.int (s1 2)]) hC mvX5_bare q1844 (gOf.of hC.K cI4 hM_0) (met_Sg_bare l G M sa ts s1 hM_0) ⟨rfl, rfl⟩ ⟨(Nat.le_of_ble_eq_true rfl), (Nat.le_of_ble_eq_true rfl)⟩ rfl (Nat.le_of_ble_eq_true rfl) dX5_take_14 rfl ⟨(Nat.le_of_ble_eq_true rfl), (Nat.le_of_ble_eq_true rfl)⟩) 17 rfl 0 (Nat.le_of_ble_eq_true rfl) ?_
    refine g_icmp_ge hC dX5_take_17 35 rfl 20 rfl (fun c_92 => ?_) (fun c_92 => ?_)
    · refine g_aload_n hC dX5_take_35 0 rfl gRef_r 36 rfl ?_
      refine g_aload_n hC dX5_take_36 0 rfl gRef_r 37 rfl ?_
      refine g_get (v := .int (s1 8)) hC cI4 hM_0 8 (Nat.le_of_ble_eq_true rfl) q249 rfl dX5_take_37 40 rfl ?_
      refine g_iconst hC dX5_take_40 ki_1 41 rfl ?_
      refine g_ishl hC dX5_take_41 42 rfl ?_
      refine g_iload_n hC dX5_take_42 1 rfl 43 rfl ?_
      refine g_ior hC dX5_take_43 44 rfl ?_
      obtain ⟨F95, eF96⟩ : ∃ z9, z9 = upd s1 8 (((s1 8) <<< (1 &&& 31)) ||| lev) := ⟨_, rfl⟩
      refine g_put hC cI4 hM_0 8 (Nat.le_of_ble_eq_true rfl) q249 rfl rfl rfl (Nat.le_of_ble_eq_true rfl) dX5_take_44 (fs' := smL G  F95) (by rw [eF96]; exact smL_s8) 47 rfl (fun M93 hU94 => ?_)
      refine g_aload_n hC dX5_take_47 0 rfl gRef_r 48 rfl ?_
      refine g_get (v := .int (F95 2)) hC cI4 hU94.1 2 (Nat.le_of_ble_eq_true rfl) q238 rfl dX5_take_48 51 rfl ?_
      refine g_topi (y := s1 2) (by rw [eF96, pk_un (by omega)]) ?_
      refine g_if_le hC dX5_take_51 78 rfl 54 rfl (fun c_97 => ?_) (fun c_97 => ?_)
      · refine g_aload_n hC dX5_take_78 0 rfl gRef_r 79 rfl ?_
        refine g_get (v := .int (F95 2)) hC cI4 hU94.1 2 (Nat.le_of_ble_eq_true rfl) q238 rfl dX5_take_79 82 rfl ?_
        refine g_topi (y := s1 2) (by rw [eF96, pk_un (by omega)]) ?_
        refine g_bipush hC dX5_take_82 kb_12 84 rfl ?_
        refine g_icmp_ne hC dX5_take_84 104 rfl 87 rfl (fun c_98 => ?_) (fun c_98 => ?_)
        · refine g_aload_n hC dX5_take_104 0 rfl gRef_r 105 rfl ?_
          refine g_get (v := .int (F95 2)) hC cI4 hU94.1 2 (Nat.le_of_ble_eq_true rfl) q238 rfl dX5_take_105 108 rfl ?_
          refine g_topi (y := s1 2) (by rw [eF96, pk_un (by omega)]) ?_
          refine g_bipush hC dX5_take_108 kb_15 110 rfl ?_
          refine g_icmp_lt hC dX5_take_110 137 rfl 113 rfl (fun c_99 => ?_) (fun c_99 => ?_)
          · refine g_aload_n hC dX5_take_137 0 rfl gRef_r 138 rfl ?_
            refine g_get (v := .int (F95 2)) hC cI4 hU94.1 2 (Nat.le_of_ble_eq_true rfl) q238 rfl dX5_take_138 141 rfl ?_
            refine g_topi (y := s1 2) (by rw [eF96, pk_un (by omega)]) ?_
            refine g_bipush hC dX5_take_141 kb_19 143 rfl ?_
            refine g_icmp_lt hC dX5_take_143 169 rfl 146 rfl (fun c_100 => ?_) (fun c_100 => ?_)
            · exact absurd c_100 c_1
            · refine g_aload_n hC dX5_take_146 0 rfl gRef_r 147 rfl ?_
              refine g_get (v := .int (F95 2)) hC cI4 hU94.1 2 (Nat.le_of_ble_eq_true rfl) q238 rfl dX5_take_147 150 rfl ?_
              refine g_topi (y := s1 2) (by rw [eF96, pk_un (by omega)]) ?_
              refine g_aload_n hC dX5_take_150 0 rfl gRef_r 151 rfl ?_
              refine g_calliP (g_V (As := []) (rest := [.int (s1 2)]) hC mvX5_bare q1844 (gOf.of hC.K cI4 hU94.1) (met_Sg_bare l G M93 sa ts F95 hU94.1) ⟨rfl, rfl⟩ ⟨(Nat.le_of_ble_eq_true rfl), (Nat.le_of_ble_eq_true rfl)⟩ rfl (Nat.le_of_ble_eq_true rfl) dX5_take_151 rfl ⟨(Nat.le_of_ble_eq_true rfl), (Nat.le_of_ble_eq_true rfl)⟩) 154 rfl 0 (Nat.le_of_ble_eq_true rfl) ?_
              refine g_icmp_ge hC dX5_take_154 169 rfl 157 rfl (fun c_101 => ?_) (fun c_101 => ?_)
              · refine g_aload_n hC dX5_take_169 0 rfl gRef_r 170 rfl ?_
                refine g_dup hC dX5_take_170 rfl 171 rfl ?_
                refine g_get (v := .int (F95 2)) hC cI4 hU94.1 2 (Nat.le_of_ble_eq_true rfl) q238 rfl dX5_take_171 174 rfl ?_
                refine g_topi (y := s1 2) (by rw [eF96, pk_un (by omega)]) ?_
                refine g_iconst hC dX5_take_174 ki_1 175 rfl ?_
                refine g_iadd hC dX5_take_175 176 rfl ?_
                obtain ⟨F104, eF105⟩ : ∃ z9, z9 = upd F95 2 ((s1 2) + 1) := ⟨_, rfl⟩
                refine g_put hC cI4 hU94.1 2 (Nat.le_of_ble_eq_true rfl) q238 rfl rfl rfl (Nat.le_of_ble_eq_true rfl) dX5_take_176 (fs' := smL G  F104) (by rw [eF105]; exact smL_s2) 179 rfl (fun M102 hU103 => ?_)
                exact g_vret hC (fun k9 hk9 => ⟨(by first | (rw [hU103.1]; have hT1 : smT1 s1 lev = F95 := (by simp only [smT1, eq_false c_1, eq_true (Int32.not_lt.mp c_1), eq_true c_92, eq_false (Int32.not_lt.mpr c_92), eq_true c_97, eq_false (Int32.not_lt.mpr c_97), eq_false c_98, eq_true c_99, eq_false (Int32.not_le.mpr c_99), eq_false c_100, eq_true (Int32.not_lt.mp c_100), eq_true c_101, eq_false (Int32.not_lt.mpr c_101), if_true, if_false, true_and, and_true, false_and, and_false, true_or, or_true, false_or, or_false, not_true_eq_false, not_false_eq_true, reduceIte, decide_true, decide_false, Bool.false_eq_true]; exact eF96.symm); simp only [smTake, hT1, smT2, eq_false c_1, eq_true (Int32.not_lt.mp c_1), eq_true c_92, eq_false (Int32.not_lt.mpr c_92), eq_true c_97, eq_false (Int32.not_lt.mpr c_97), eq_false c_98, eq_true c_99, eq_false (Int32.not_le.mpr c_99), eq_false c_100, eq_true (Int32.not_lt.mp c_100), eq_true c_101, eq_false (Int32.not_lt.mpr c_101), if_true, if_false, true_and, and_true, false_and, and_false, true_or, or_true, false_or, or_false, not_true_eq_false, not_false_eq_true, reduceIte, decide_true, decide_false, Bool.false_eq_true, ← eF96, ← eF105]; done) | (exfalso; simp only [Int32.lt_iff_toInt_lt, Int32.le_iff_toInt_le, ← Int32.toInt_inj, (show Int32.toInt 0 = 0 from rfl), (show Int32.toInt 1 = 1 from rfl), (show Int32.toInt 2 = 2 from rfl), (show Int32.toInt 3 = 3 from rfl), (show Int32.toInt 4 = 4 from rfl), (show Int32.toInt 5 = 5 from rfl), (show Int32.toInt 6 = 6 from rfl), (show Int32.toInt 7 = 7 from rfl), (show Int32.toInt 8 = 8 from rfl), (show Int32.toInt 9 = 9 from rfl), (show Int32.toInt 11 = 11 from rfl), (show Int32.toInt 12 = 12 from rfl), (show Int32.toInt 13 = 13 from rfl), (show Int32.toInt 15 = 15 from rfl), (show Int32.toInt 18 = 18 from rfl), (show Int32.toInt 19 = 19 from rfl)] at c_1 c_92 c_97 c_98 c_99 c_100 c_101; omega)), ((gFr.refl.up hU94 hM_0 (by simp)).up hU103 hU94.1 (by simp)), (by first | exact Nat.le_zero.mp hk9 | omega)⟩) dX5_take_179 (Nat.le_of_ble_eq_true rfl) (Nat.le_of_ble_eq_true rfl)
              · refine g_aload_n hC dX5_take_157 0 rfl gRef_r 158 rfl ?_
                refine g_aload_n hC dX5_take_158 0 rfl gRef_r 159 rfl ?_
                refine g_get (v := .int (F95 6)) hC cI4 hU94.1 6 (Nat.le_of_ble_eq_true rfl) q246 rfl dX5_take_159 162 rfl ?_
                refine g_topi (y := s1 6) (by rw [eF96, pk_un (by omega)]) ?_
                refine g_iconst hC dX5_take_162 ki_1 163 rfl ?_
                refine g_ishl hC dX5_take_163 164 rfl ?_
                refine g_iload_n hC dX5_take_164 1 rfl 165 rfl ?_
                refine g_ior hC dX5_take_165 166 rfl ?_
                obtain ⟨F108, eF109⟩ : ∃ z9, z9 = upd F95 6 (((s1 6) <<< (1 &&& 31)) ||| lev) := ⟨_, rfl⟩
                refine g_put hC cI4 hU94.1 6 (Nat.le_of_ble_eq_true rfl) q246 rfl rfl rfl (Nat.le_of_ble_eq_true rfl) dX5_take_166 (fs' := smL G  F108) (by rw [eF109]; exact smL_s6) 169 rfl (fun M106 hU107 => ?_)
                refine g_aload_n hC dX5_take_169 0 rfl gRef_r 170 rfl ?_
                refine g_dup hC dX5_take_170 rfl 171 rfl ?_
                refine g_get (v := .int (F108 2)) hC cI4 hU107.1 2 (Nat.le_of_ble_eq_true rfl) q238 rfl dX5_take_171 174 rfl ?_
                refine g_topi (y := s1 2) (by rw [eF109, pk_un (by omega), eF96, pk_un (by omega)]) ?_
                refine g_iconst hC dX5_take_174 ki_1 175 rfl ?_
                refine g_iadd hC dX5_take_175 176 rfl ?_
                obtain ⟨F112, eF113⟩ : ∃ z9, z9 = upd F108 2 ((s1 2) + 1) := ⟨_, rfl⟩
                refine g_put hC cI4 hU107.1 2 (Nat.le_of_ble_eq_true rfl) q238 rfl rfl rfl (Nat.le_of_ble_eq_true rfl) dX5_take_176 (fs' := smL G  F112) (by rw [eF113]; exact smL_s2) 179 rfl (fun M110 hU111 => ?_)
                exact g_vret hC (fun k9 hk9 => ⟨(by first | (rw [hU111.1]; have hT1 : smT1 s1 lev = F95 := (by simp only [smT1, eq_false c_1, eq_true (Int32.not_lt.mp c_1), eq_true c_92, eq_false (Int32.not_lt.mpr c_92), eq_true c_97, eq_false (Int32.not_lt.mpr c_97), eq_false c_98, eq_true c_99, eq_false (Int32.not_le.mpr c_99), eq_false c_100, eq_true (Int32.not_lt.mp c_100), eq_false c_101, eq_true (Int32.not_le.mp c_101), if_true, if_false, true_and, and_true, false_and, and_false, true_or, or_true, false_or, or_false, not_true_eq_false, not_false_eq_true, reduceIte, decide_true, decide_false, Bool.false_eq_true]; exact eF96.symm); simp only [smTake, hT1, smT2, eq_false c_1, eq_true (Int32.not_lt.mp c_1), eq_true c_92, eq_false (Int32.not_lt.mpr c_92), eq_true c_97, eq_false (Int32.not_lt.mpr c_97), eq_false c_98, eq_true c_99, eq_false (Int32.not_le.mpr c_99), eq_false c_100, eq_true (Int32.not_lt.mp c_100), eq_false c_101, eq_true (Int32.not_le.mp c_101), if_true, if_false, true_and, and_true, false_and, and_false, true_or, or_true, false_or, or_false, not_true_eq_false, not_false_eq_true, reduceIte, decide_true, decide_false, Bool.false_eq_true, ← eF96, ← eF109, ← eF113]; done) | (exfalso; simp only [Int32.lt_iff_toInt_lt, Int32.le_iff_toInt_le, ← Int32.toInt_inj, (show Int32.toInt 0 = 0 from rfl), (show Int32.toInt 1 = 1 from rfl), (show Int32.toInt 2 = 2 from rfl), (show Int32.toInt 3 = 3 from rfl), (show Int32.toInt 4 = 4 from rfl), (show Int32.toInt 5 = 5 from rfl), (show Int32.toInt 6 = 6 from rfl), (show Int32.toInt 7 = 7 from rfl), (show Int32.toInt 8 = 8 from rfl), (show Int32.toInt 9 = 9 from rfl), (show Int32.toInt 11 = 11 from rfl), (show Int32.toInt 12 = 12 from rfl), (show Int32.toInt 13 = 13 from rfl), (show Int32.toInt 15 = 15 from rfl), (show Int32.toInt 18 = 18 from rfl), (show Int32.toInt 19 = 19 from rfl)] at c_1 c_92 c_97 c_98 c_99 c_100 c_101; omega)), (((gFr.refl.up hU94 hM_0 (by simp)).up hU107 hU94.1 (by simp)).up hU111 hU107.1 (by simp)), (by first | exact Nat.le_zero.mp hk9 | omega)⟩) dX5_take_179 (Nat.le_of_ble_eq_true rfl) (Nat.le_of_ble_eq_true rfl)
          · refine g_aload_n hC dX5_take_113 0 rfl gRef_r 114 rfl ?_
            refine g_get (v := .int (F95 2)) hC cI4 hU94.1 2 (Nat.le_of_ble_eq_true rfl) q238 rfl dX5_take_114 117 rfl ?_
            refine g_topi (y := s1 2) (by rw [eF96, pk_un (by omega)]) ?_
            refine g_bipush hC dX5_take_117 kb_19 119 rfl ?_
            refine g_icmp_ge hC dX5_take_119 137 rfl 122 rfl (fun c_114 => ?_) (fun c_114 => ?_)
            · refine g_aload_n hC dX5_take_137 0 rfl gRef_r 138 rfl ?_
              refine g_get (v := .int (F95 2)) hC cI4 hU94.1 2 (Nat.le_of_ble_eq_true rfl) q238 rfl dX5_take_138 141 rfl ?_
              refine g_topi (y := s1 2) (by rw [eF96, pk_un (by omega)]) ?_
              refine g_bipush hC dX5_take_141 kb_19 143 rfl ?_
              refine g_icmp_lt hC dX5_take_143 169 rfl 146 rfl (fun c_115 => ?_) (fun c_115 => ?_)
              · exact absurd c_115 c_1
              · refine g_aload_n hC dX5_take_146 0 rfl gRef_r 147 rfl ?_
                refine g_get (v := .int (F95 2)) hC cI4 hU94.1 2 (Nat.le_of_ble_eq_true rfl) q238 rfl dX5_take_147 150 rfl ?_
                refine g_topi (y := s1 2) (by rw [eF96, pk_un (by omega)]) ?_
                refine g_aload_n hC dX5_take_150 0 rfl gRef_r 151 rfl ?_
                refine g_calliP (g_V (As := []) (rest := [.int (s1 2)]) hC mvX5_bare q1844 (gOf.of hC.K cI4 hU94.1) (met_Sg_bare l G M93 sa ts F95 hU94.1) ⟨rfl, rfl⟩ ⟨(Nat.le_of_ble_eq_true rfl), (Nat.le_of_ble_eq_true rfl)⟩ rfl (Nat.le_of_ble_eq_true rfl) dX5_take_151 rfl ⟨(Nat.le_of_ble_eq_true rfl), (Nat.le_of_ble_eq_true rfl)⟩) 154 rfl 0 (Nat.le_of_ble_eq_true rfl) ?_
                refine g_icmp_ge hC dX5_take_154 169 rfl 157 rfl (fun c_116 => ?_) (fun c_116 => ?_)
                · refine g_aload_n hC dX5_take_169 0 rfl gRef_r 170 rfl ?_
                  refine g_dup hC dX5_take_170 rfl 171 rfl ?_
                  refine g_get (v := .int (F95 2)) hC cI4 hU94.1 2 (Nat.le_of_ble_eq_true rfl) q238 rfl dX5_take_171 174 rfl ?_
                  refine g_topi (y := s1 2) (by rw [eF96, pk_un (by omega)]) ?_
                  refine g_iconst hC dX5_take_174 ki_1 175 rfl ?_
                  refine g_iadd hC dX5_take_175 176 rfl ?_
                  obtain ⟨F119, eF120⟩ : ∃ z9, z9 = upd F95 2 ((s1 2) + 1) := ⟨_, rfl⟩
                  refine g_put hC cI4 hU94.1 2 (Nat.le_of_ble_eq_true rfl) q238 rfl rfl rfl (Nat.le_of_ble_eq_true rfl) dX5_take_176 (fs' := smL G  F119) (by rw [eF120]; exact smL_s2) 179 rfl (fun M117 hU118 => ?_)
                  exact g_vret hC (fun k9 hk9 => ⟨(by first | (rw [hU118.1]; have hT1 : smT1 s1 lev = F95 := (by simp only [smT1, eq_false c_1, eq_true (Int32.not_lt.mp c_1), eq_true c_92, eq_false (Int32.not_lt.mpr c_92), eq_true c_97, eq_false (Int32.not_lt.mpr c_97), eq_false c_98, eq_false c_99, eq_true (Int32.not_lt.mp c_99), eq_true c_114, eq_false (Int32.not_lt.mpr c_114), eq_false c_115, eq_true (Int32.not_lt.mp c_115), eq_true c_116, eq_false (Int32.not_lt.mpr c_116), if_true, if_false, true_and, and_true, false_and, and_false, true_or, or_true, false_or, or_false, not_true_eq_false, not_false_eq_true, reduceIte, decide_true, decide_false, Bool.false_eq_true]; exact eF96.symm); simp only [smTake, hT1, smT2, eq_false c_1, eq_true (Int32.not_lt.mp c_1), eq_true c_92, eq_false (Int32.not_lt.mpr c_92), eq_true c_97, eq_false (Int32.not_lt.mpr c_97), eq_false c_98, eq_false c_99, eq_true (Int32.not_lt.mp c_99), eq_true c_114, eq_false (Int32.not_lt.mpr c_114), eq_false c_115, eq_true (Int32.not_lt.mp c_115), eq_true c_116, eq_false (Int32.not_lt.mpr c_116), if_true, if_false, true_and, and_true, false_and, and_false, true_or, or_true, false_or, or_false, not_true_eq_false, not_false_eq_true, reduceIte, decide_true, decide_false, Bool.false_eq_true, ← eF96, ← eF120]; done) | (exfalso; simp only [Int32.lt_iff_toInt_lt, Int32.le_iff_toInt_le, ← Int32.toInt_inj, (show Int32.toInt 0 = 0 from rfl), (show Int32.toInt 1 = 1 from rfl), (show Int32.toInt 2 = 2 from rfl), (show Int32.toInt 3 = 3 from rfl), (show Int32.toInt 4 = 4 from rfl), (show Int32.toInt 5 = 5 from rfl), (show Int32.toInt 6 = 6 from rfl), (show Int32.toInt 7 = 7 from rfl), (show Int32.toInt 8 = 8 from rfl), (show Int32.toInt 9 = 9 from rfl), (show Int32.toInt 11 = 11 from rfl), (show Int32.toInt 12 = 12 from rfl), (show Int32.toInt 13 = 13 from rfl), (show Int32.toInt 15 = 15 from rfl), (show Int32.toInt 18 = 18 from rfl), (show Int32.toInt 19 = 19 from rfl)] at c_1 c_92 c_97 c_98 c_99 c_114 c_115 c_116; omega)), ((gFr.refl.up hU94 hM_0 (by simp)).up hU118 hU94.1 (by simp)), (by first | exact Nat.le_zero.mp hk9 | omega)⟩) dX5_take_179 (Nat.le_of_ble_eq_true rfl) (Nat.le_of_ble_eq_true rfl)
                · refine g_aload_n hC dX5_take_157 0 rfl gRef_r 158 rfl ?_
                  refine g_aload_n hC dX5_take_158 0 rfl gRef_r 159 rfl ?_
                  refine g_get (v := .int (F95 6)) hC cI4 hU94.1 6 (Nat.le_of_ble_eq_true rfl) q246 rfl dX5_take_159 162 rfl ?_
                  refine g_topi (y := s1 6) (by rw [eF96, pk_un (by omega)]) ?_
                  refine g_iconst hC dX5_take_162 ki_1 163 rfl ?_
                  refine g_ishl hC dX5_take_163 164 rfl ?_
                  refine g_iload_n hC dX5_take_164 1 rfl 165 rfl ?_
                  refine g_ior hC dX5_take_165 166 rfl ?_
                  obtain ⟨F123, eF124⟩ : ∃ z9, z9 = upd F95 6 (((s1 6) <<< (1 &&& 31)) ||| lev) := ⟨_, rfl⟩
                  refine g_put hC cI4 hU94.1 6 (Nat.le_of_ble_eq_true rfl) q246 rfl rfl rfl (Nat.le_of_ble_eq_true rfl) dX5_take_166 (fs' := smL G  F123) (by rw [eF124]; exact smL_s6) 169 rfl (fun M121 hU122 => ?_)
                  refine g_aload_n hC dX5_take_169 0 rfl gRef_r 170 rfl ?_
                  refine g_dup hC dX5_take_170 rfl 171 rfl ?_
                  refine g_get (v := .int (F123 2)) hC cI4 hU122.1 2 (Nat.le_of_ble_eq_true rfl) q238 rfl dX5_take_171 174 rfl ?_
                  refine g_topi (y := s1 2) (by rw [eF124, pk_un (by omega), eF96, pk_un (by omega)]) ?_
                  refine g_iconst hC dX5_take_174 ki_1 175 rfl ?_
                  refine g_iadd hC dX5_take_175 176 rfl ?_
                  obtain ⟨F127, eF128⟩ : ∃ z9, z9 = upd F123 2 ((s1 2) + 1) := ⟨_, rfl⟩
                  refine g_put hC cI4 hU122.1 2 (Nat.le_of_ble_eq_true rfl) q238 rfl rfl rfl (Nat.le_of_ble_eq_true rfl) dX5_take_176 (fs' := smL G  F127) (by rw [eF128]; exact smL_s2) 179 rfl (fun M125 hU126 => ?_)
                  exact g_vret hC (fun k9 hk9 => ⟨(by first | (rw [hU126.1]; have hT1 : smT1 s1 lev = F95 := (by simp only [smT1, eq_false c_1, eq_true (Int32.not_lt.mp c_1), eq_true c_92, eq_false (Int32.not_lt.mpr c_92), eq_true c_97, eq_false (Int32.not_lt.mpr c_97), eq_false c_98, eq_false c_99, eq_true (Int32.not_lt.mp c_99), eq_true c_114, eq_false (Int32.not_lt.mpr c_114), eq_false c_115, eq_true (Int32.not_lt.mp c_115), eq_false c_116, eq_true (Int32.not_le.mp c_116), if_true, if_false, true_and, and_true, false_and, and_false, true_or, or_true, false_or, or_false, not_true_eq_false, not_false_eq_true, reduceIte, decide_true, decide_false, Bool.false_eq_true]; exact eF96.symm); simp only [smTake, hT1, smT2, eq_false c_1, eq_true (Int32.not_lt.mp c_1), eq_true c_92, eq_false (Int32.not_lt.mpr c_92), eq_true c_97, eq_false (Int32.not_lt.mpr c_97), eq_false c_98, eq_false c_99, eq_true (Int32.not_lt.mp c_99), eq_true c_114, eq_false (Int32.not_lt.mpr c_114), eq_false c_115, eq_true (Int32.not_lt.mp c_115), eq_false c_116, eq_true (Int32.not_le.mp c_116), if_true, if_false, true_and, and_true, false_and, and_false, true_or, or_true, false_or, or_false, not_true_eq_false, not_false_eq_true, reduceIte, decide_true, decide_false, Bool.false_eq_true, ← eF96, ← eF124, ← eF128]; done) | (exfalso; simp only [Int32.lt_iff_toInt_lt, Int32.le_iff_toInt_le, ← Int32.toInt_inj, (show Int32.toInt 0 = 0 from rfl), (show Int32.toInt 1 = 1 from rfl), (show Int32.toInt 2 = 2 from rfl), (show Int32.toInt 3 = 3 from rfl), (show Int32.toInt 4 = 4 from rfl), (show Int32.toInt 5 = 5 from rfl), (show Int32.toInt 6 = 6 from rfl), (show Int32.toInt 7 = 7 from rfl), (show Int32.toInt 8 = 8 from rfl), (show Int32.toInt 9 = 9 from rfl), (show Int32.toInt 11 = 11 from rfl), (show Int32.toInt 12 = 12 from rfl), (show Int32.toInt 13 = 13 from rfl), (show Int32.toInt 15 = 15 from rfl), (show Int32.toInt 18 = 18 from rfl), (show Int32.toInt 19 = 19 from rfl)] at c_1 c_92 c_97 c_98 c_99 c_114 c_115 c_116; omega)), (((gFr.refl.up hU94 hM_0 (by simp)).up hU122 hU94.1 (by simp)).up hU126 hU122.1 (by simp)), (by first | exact Nat.le_zero.mp hk9 | omega)⟩) dX5_take_179 (Nat.le_of_ble_eq_true rfl) (Nat.le_of_ble_eq_true rfl)
            · refine g_aload_n hC dX5_take_122 0 rfl gRef_r 123 rfl ?_
              refine g_aload_n hC dX5_take_123 0 rfl gRef_r 124 rfl ?_
              refine g_get (v := .int (F95 5)) hC cI4 hU94.1 5 (Nat.le_of_ble_eq_true rfl) q244 rfl dX5_take_124 127 rfl ?_
              refine g_topi (y := s1 5) (by rw [eF96, pk_un (by omega)]) ?_
              refine g_iconst hC dX5_take_127 ki_1 128 rfl ?_
              refine g_ishl hC dX5_take_128 129 rfl ?_
              refine g_iload_n hC dX5_take_129 1 rfl 130 rfl ?_
              refine g_ior hC dX5_take_130 131 rfl ?_
              obtain ⟨F131, eF132⟩ : ∃ z9, z9 = upd F95 5 (((s1 5) <<< (1 &&& 31)) ||| lev) := ⟨_, rfl⟩
              refine g_put hC cI4 hU94.1 5 (Nat.le_of_ble_eq_true rfl) q244 rfl rfl rfl (Nat.le_of_ble_eq_true rfl) dX5_take_131 (fs' := smL G  F131) (by rw [eF132]; exact smL_s5) 134 rfl (fun M129 hU130 => ?_)
              refine g_goto hC dX5_take_134 169 rfl ?_
              refine g_aload_n hC dX5_take_169 0 rfl gRef_r 170 rfl ?_
              refine g_dup hC dX5_take_170 rfl 171 rfl ?_
              refine g_get (v := .int (F131 2)) hC cI4 hU130.1 2 (Nat.le_of_ble_eq_true rfl) q238 rfl dX5_take_171 174 rfl ?_
              refine g_topi (y := s1 2) (by rw [eF132, pk_un (by omega), eF96, pk_un (by omega)]) ?_
              refine g_iconst hC dX5_take_174 ki_1 175 rfl ?_
              refine g_iadd hC dX5_take_175 176 rfl ?_
              obtain ⟨F135, eF136⟩ : ∃ z9, z9 = upd F131 2 ((s1 2) + 1) := ⟨_, rfl⟩
              refine g_put hC cI4 hU130.1 2 (Nat.le_of_ble_eq_true rfl) q238 rfl rfl rfl (Nat.le_of_ble_eq_true rfl) dX5_take_176 (fs' := smL G  F135) (by rw [eF136]; exact smL_s2) 179 rfl (fun M133 hU134 => ?_)
              exact g_vret hC (fun k9 hk9 => ⟨(by first | (rw [hU134.1]; have hT1 : smT1 s1 lev = F95 := (by simp only [smT1, eq_false c_1, eq_true (Int32.not_lt.mp c_1), eq_true c_92, eq_false (Int32.not_lt.mpr c_92), eq_true c_97, eq_false (Int32.not_lt.mpr c_97), eq_false c_98, eq_false c_99, eq_true (Int32.not_lt.mp c_99), eq_false c_114, eq_true (Int32.not_le.mp c_114), if_true, if_false, true_and, and_true, false_and, and_false, true_or, or_true, false_or, or_false, not_true_eq_false, not_false_eq_true, reduceIte, decide_true, decide_false, Bool.false_eq_true]; exact eF96.symm); simp only [smTake, hT1, smT2, eq_false c_1, eq_true (Int32.not_lt.mp c_1), eq_true c_92, eq_false (Int32.not_lt.mpr c_92), eq_true c_97, eq_false (Int32.not_lt.mpr c_97), eq_false c_98, eq_false c_99, eq_true (Int32.not_lt.mp c_99), eq_false c_114, eq_true (Int32.not_le.mp c_114), if_true, if_false, true_and, and_true, false_and, and_false, true_or, or_true, false_or, or_false, not_true_eq_false, not_false_eq_true, reduceIte, decide_true, decide_false, Bool.false_eq_true, ← eF96, ← eF132, ← eF136]; done) | (exfalso; simp only [Int32.lt_iff_toInt_lt, Int32.le_iff_toInt_le, ← Int32.toInt_inj, (show Int32.toInt 0 = 0 from rfl), (show Int32.toInt 1 = 1 from rfl), (show Int32.toInt 2 = 2 from rfl), (show Int32.toInt 3 = 3 from rfl), (show Int32.toInt 4 = 4 from rfl), (show Int32.toInt 5 = 5 from rfl), (show Int32.toInt 6 = 6 from rfl), (show Int32.toInt 7 = 7 from rfl), (show Int32.toInt 8 = 8 from rfl), (show Int32.toInt 9 = 9 from rfl), (show Int32.toInt 11 = 11 from rfl), (show Int32.toInt 12 = 12 from rfl), (show Int32.toInt 13 = 13 from rfl), (show Int32.toInt 15 = 15 from rfl), (show Int32.toInt 18 = 18 from rfl), (show Int32.toInt 19 = 19 from rfl)] at c_1 c_92 c_97 c_98 c_99 c_114; omega)), (((gFr.refl.up hU94 hM_0 (by simp)).up hU130 hU94.1 (by simp)).up hU134 hU130.1 (by simp)), (by first | exact Nat.le_zero.mp hk9 | omega)⟩) dX5_take_179 (Nat.le_of_ble_eq_true rfl) (Nat.le_of_ble_eq_true rfl)
        · refine g_aload_n hC dX5_take_87 0 rfl gRef_r 88 rfl ?_
          refine g_iload_n hC dX5_take_88 1 rfl 89 rfl ?_
          refine g_iconst hC dX5_take_89 ki_1 90 rfl ?_
          refine g_icmp_ne hC dX5_take_90 97 rfl 93 rfl (fun c_137 => ?_) (fun c_137 => ?_)
          · refine g_iconst hC dX5_take_97 ki_0 98 rfl ?_
            obtain ⟨F140, eF141⟩ : ∃ z9, z9 = upd F95 4 0 := ⟨_, rfl⟩
            refine g_put hC cI4 hU94.1 4 (Nat.le_of_ble_eq_true rfl) q242 rfl (by decide) rfl (Nat.le_of_ble_eq_true rfl) dX5_take_98 (fs' := smL G  F140) (by rw [eF141]; exact smL_s4) 101 rfl (fun M138 hU139 => ?_)
            refine g_goto hC dX5_take_101 169 rfl ?_
            refine g_aload_n hC dX5_take_169 0 rfl gRef_r 170 rfl ?_
            refine g_dup hC dX5_take_170 rfl 171 rfl ?_
            refine g_get (v := .int (F140 2)) hC cI4 hU139.1 2 (Nat.le_of_ble_eq_true rfl) q238 rfl dX5_take_171 174 rfl ?_
            refine g_topi (y := s1 2) (by rw [eF141, pk_un (by omega), eF96, pk_un (by omega)]) ?_
            refine g_iconst hC dX5_take_174 ki_1 175 rfl ?_
            refine g_iadd hC dX5_take_175 176 rfl ?_
            obtain ⟨F144, eF145⟩ : ∃ z9, z9 = upd F140 2 ((s1 2) + 1) := ⟨_, rfl⟩
            refine g_put hC cI4 hU139.1 2 (Nat.le_of_ble_eq_true rfl) q238 rfl rfl rfl (Nat.le_of_ble_eq_true rfl) dX5_take_176 (fs' := smL G  F144) (by rw [eF145]; exact smL_s2) 179 rfl (fun M142 hU143 => ?_)
            exact g_vret hC (fun k9 hk9 => ⟨(by first | (rw [hU143.1]; have hT1 : smT1 s1 lev = F95 := (by simp only [smT1, eq_false c_1, eq_true (Int32.not_lt.mp c_1), eq_true c_92, eq_false (Int32.not_lt.mpr c_92), eq_true c_97, eq_false (Int32.not_lt.mpr c_97), eq_true c_98, eq_false c_137, if_true, if_false, true_and, and_true, false_and, and_false, true_or, or_true, false_or, or_false, not_true_eq_false, not_false_eq_true, reduceIte, decide_true, decide_false, Bool.false_eq_true]; exact eF96.symm); simp only [smTake, hT1, smT2, eq_false c_1, eq_true (Int32.not_lt.mp c_1), eq_true c_92, eq_false (Int32.not_lt.mpr c_92), eq_true c_97, eq_false (Int32.not_lt.mpr c_97), eq_true c_98, eq_false c_137, if_true, if_false, true_and, and_true, false_and, and_false, true_or, or_true, false_or, or_false, not_true_eq_false, not_false_eq_true, reduceIte, decide_true, decide_false, Bool.false_eq_true, ← eF96, ← eF141, ← eF145]; done) | (exfalso; simp only [Int32.lt_iff_toInt_lt, Int32.le_iff_toInt_le, ← Int32.toInt_inj, (show Int32.toInt 0 = 0 from rfl), (show Int32.toInt 1 = 1 from rfl), (show Int32.toInt 2 = 2 from rfl), (show Int32.toInt 3 = 3 from rfl), (show Int32.toInt 4 = 4 from rfl), (show Int32.toInt 5 = 5 from rfl), (show Int32.toInt 6 = 6 from rfl), (show Int32.toInt 7 = 7 from rfl), (show Int32.toInt 8 = 8 from rfl), (show Int32.toInt 9 = 9 from rfl), (show Int32.toInt 11 = 11 from rfl), (show Int32.toInt 12 = 12 from rfl), (show Int32.toInt 13 = 13 from rfl), (show Int32.toInt 15 = 15 from rfl), (show Int32.toInt 18 = 18 from rfl), (show Int32.toInt 19 = 19 from rfl)] at c_1 c_92 c_97 c_98 c_137; omega)), (((gFr.refl.up hU94 hM_0 (by simp)).up hU139 hU94.1 (by simp)).up hU143 hU139.1 (by simp)), (by first | exact Nat.le_zero.mp hk9 | omega)⟩) dX5_take_179 (Nat.le_of_ble_eq_true rfl) (Nat.le_of_ble_eq_true rfl)
          · refine g_iconst hC dX5_take_93 ki_1 94 rfl ?_
            refine g_goto hC dX5_take_94 98 rfl ?_
            obtain ⟨F148, eF149⟩ : ∃ z9, z9 = upd F95 4 1 := ⟨_, rfl⟩
            refine g_put hC cI4 hU94.1 4 (Nat.le_of_ble_eq_true rfl) q242 rfl (by decide) rfl (Nat.le_of_ble_eq_true rfl) dX5_take_98 (fs' := smL G  F148) (by rw [eF149]; exact smL_s4) 101 rfl (fun M146 hU147 => ?_)
            refine g_goto hC dX5_take_101 169 rfl ?_
            refine g_aload_n hC dX5_take_169 0 rfl gRef_r 170 rfl ?_
            refine g_dup hC dX5_take_170 rfl 171 rfl ?_
            refine g_get (v := .int (F148 2)) hC cI4 hU147.1 2 (Nat.le_of_ble_eq_true rfl) q238 rfl dX5_take_171 174 rfl ?_
            refine g_topi (y := s1 2) (by rw [eF149, pk_un (by omega), eF96, pk_un (by omega)]) ?_
            refine g_iconst hC dX5_take_174 ki_1 175 rfl ?_
            refine g_iadd hC dX5_take_175 176 rfl ?_
            obtain ⟨F152, eF153⟩ : ∃ z9, z9 = upd F148 2 ((s1 2) + 1) := ⟨_, rfl⟩
            refine g_put hC cI4 hU147.1 2 (Nat.le_of_ble_eq_true rfl) q238 rfl rfl rfl (Nat.le_of_ble_eq_true rfl) dX5_take_176 (fs' := smL G  F152) (by rw [eF153]; exact smL_s2) 179 rfl (fun M150 hU151 => ?_)
            exact g_vret hC (fun k9 hk9 => ⟨(by first | (rw [hU151.1]; have hT1 : smT1 s1 lev = F95 := (by simp only [smT1, eq_false c_1, eq_true (Int32.not_lt.mp c_1), eq_true c_92, eq_false (Int32.not_lt.mpr c_92), eq_true c_97, eq_false (Int32.not_lt.mpr c_97), eq_true c_98, eq_true c_137, if_true, if_false, true_and, and_true, false_and, and_false, true_or, or_true, false_or, or_false, not_true_eq_false, not_false_eq_true, reduceIte, decide_true, decide_false, Bool.false_eq_true]; exact eF96.symm); simp only [smTake, hT1, smT2, eq_false c_1, eq_true (Int32.not_lt.mp c_1), eq_true c_92, eq_false (Int32.not_lt.mpr c_92), eq_true c_97, eq_false (Int32.not_lt.mpr c_97), eq_true c_98, eq_true c_137, if_true, if_false, true_and, and_true, false_and, and_false, true_or, or_true, false_or, or_false, not_true_eq_false, not_false_eq_true, reduceIte, decide_true, decide_false, Bool.false_eq_true, ← eF96, ← eF149, ← eF153]; done) | (exfalso; simp only [Int32.lt_iff_toInt_lt, Int32.le_iff_toInt_le, ← Int32.toInt_inj, (show Int32.toInt 0 = 0 from rfl), (show Int32.toInt 1 = 1 from rfl), (show Int32.toInt 2 = 2 from rfl), (show Int32.toInt 3 = 3 from rfl), (show Int32.toInt 4 = 4 from rfl), (show Int32.toInt 5 = 5 from rfl), (show Int32.toInt 6 = 6 from rfl), (show Int32.toInt 7 = 7 from rfl), (show Int32.toInt 8 = 8 from rfl), (show Int32.toInt 9 = 9 from rfl), (show Int32.toInt 11 = 11 from rfl), (show Int32.toInt 12 = 12 from rfl), (show Int32.toInt 13 = 13 from rfl), (show Int32.toInt 15 = 15 from rfl), (show Int32.toInt 18 = 18 from rfl), (show Int32.toInt 19 = 19 from rfl)] at c_1 c_92 c_97 c_98 c_137; omega)), (((gFr.refl.up hU94 hM_0 (by simp)).up hU147 hU94.1 (by simp)).up hU151 hU147.1 (by simp)), (by first | exact Nat.le_zero.mp hk9 | omega)⟩) dX5_take_179 (Nat.le_of_ble_eq_true rfl) (Nat.le_of_ble_eq_true rfl)
      · refine g_aload_n hC dX5_take_54 0 rfl gRef_r 55 rfl ?_
        refine g_get (v := .int (F95 2)) hC cI4 hU94.1 2 (Nat.le_of_ble_eq_true rfl) q238 rfl dX5_take_55 58 rfl ?_
        refine g_topi (y := s1 2) (by rw [eF96, pk_un (by omega)]) ?_
        refine g_bipush hC dX5_take_58 kb_12 60 rfl ?_
        refine g_icmp_ge hC dX5_take_60 78 rfl 63 rfl (fun c_154 => ?_) (fun c_154 => ?_)
        · refine g_aload_n hC dX5_take_78 0 rfl gRef_r 79 rfl ?_
          refine g_get (v := .int (F95 2)) hC cI4 hU94.1 2 (Nat.le_of_ble_eq_true rfl) q238 rfl dX5_take_79 82 rfl ?_
          refine g_topi (y := s1 2) (by rw [eF96, pk_un (by omega)]) ?_
          refine g_bipush hC dX5_take_82 kb_12 84 rfl ?_
          refine g_icmp_ne hC dX5_take_84 104 rfl 87 rfl (fun c_155 => ?_) (fun c_155 => ?_)
          · refine g_aload_n hC dX5_take_104 0 rfl gRef_r 105 rfl ?_
            refine g_get (v := .int (F95 2)) hC cI4 hU94.1 2 (Nat.le_of_ble_eq_true rfl) q238 rfl dX5_take_105 108 rfl ?_
            refine g_topi (y := s1 2) (by rw [eF96, pk_un (by omega)]) ?_
            refine g_bipush hC dX5_take_108 kb_15 110 rfl ?_
            refine g_icmp_lt hC dX5_take_110 137 rfl 113 rfl (fun c_156 => ?_) (fun c_156 => ?_)
            · refine g_aload_n hC dX5_take_137 0 rfl gRef_r 138 rfl ?_
              refine g_get (v := .int (F95 2)) hC cI4 hU94.1 2 (Nat.le_of_ble_eq_true rfl) q238 rfl dX5_take_138 141 rfl ?_
              refine g_topi (y := s1 2) (by rw [eF96, pk_un (by omega)]) ?_
              refine g_bipush hC dX5_take_141 kb_19 143 rfl ?_
              refine g_icmp_lt hC dX5_take_143 169 rfl 146 rfl (fun c_157 => ?_) (fun c_157 => ?_)
              · exact absurd c_157 c_1
              · refine g_aload_n hC dX5_take_146 0 rfl gRef_r 147 rfl ?_
                refine g_get (v := .int (F95 2)) hC cI4 hU94.1 2 (Nat.le_of_ble_eq_true rfl) q238 rfl dX5_take_147 150 rfl ?_
                refine g_topi (y := s1 2) (by rw [eF96, pk_un (by omega)]) ?_
                refine g_aload_n hC dX5_take_150 0 rfl gRef_r 151 rfl ?_
                refine g_calliP (g_V (As := []) (rest := [.int (s1 2)]) hC mvX5_bare q1844 (gOf.of hC.K cI4 hU94.1) (met_Sg_bare l G M93 sa ts F95 hU94.1) ⟨rfl, rfl⟩ ⟨(Nat.le_of_ble_eq_true rfl), (Nat.le_of_ble_eq_true rfl)⟩ rfl (Nat.le_of_ble_eq_true rfl) dX5_take_151 rfl ⟨(Nat.le_of_ble_eq_true rfl), (Nat.le_of_ble_eq_true rfl)⟩) 154 rfl 0 (Nat.le_of_ble_eq_true rfl) ?_
                refine g_icmp_ge hC dX5_take_154 169 rfl 157 rfl (fun c_158 => ?_) (fun c_158 => ?_)
                · refine g_aload_n hC dX5_take_169 0 rfl gRef_r 170 rfl ?_
                  refine g_dup hC dX5_take_170 rfl 171 rfl ?_
                  refine g_get (v := .int (F95 2)) hC cI4 hU94.1 2 (Nat.le_of_ble_eq_true rfl) q238 rfl dX5_take_171 174 rfl ?_
                  refine g_topi (y := s1 2) (by rw [eF96, pk_un (by omega)]) ?_
                  refine g_iconst hC dX5_take_174 ki_1 175 rfl ?_
                  refine g_iadd hC dX5_take_175 176 rfl ?_
                  obtain ⟨F161, eF162⟩ : ∃ z9, z9 = upd F95 2 ((s1 2) + 1) := ⟨_, rfl⟩
                  refine g_put hC cI4 hU94.1 2 (Nat.le_of_ble_eq_true rfl) q238 rfl rfl rfl (Nat.le_of_ble_eq_true rfl) dX5_take_176 (fs' := smL G  F161) (by rw [eF162]; exact smL_s2) 179 rfl (fun M159 hU160 => ?_)
                  exact g_vret hC (fun k9 hk9 => ⟨(by first | (rw [hU160.1]; have hT1 : smT1 s1 lev = F95 := (by simp only [smT1, eq_false c_1, eq_true (Int32.not_lt.mp c_1), eq_true c_92, eq_false (Int32.not_lt.mpr c_92), eq_false c_97, eq_true (Int32.not_le.mp c_97), eq_true c_154, eq_false (Int32.not_lt.mpr c_154), eq_false c_155, eq_true c_156, eq_false (Int32.not_le.mpr c_156), eq_false c_157, eq_true (Int32.not_lt.mp c_157), eq_true c_158, eq_false (Int32.not_lt.mpr c_158), if_true, if_false, true_and, and_true, false_and, and_false, true_or, or_true, false_or, or_false, not_true_eq_false, not_false_eq_true, reduceIte, decide_true, decide_false, Bool.false_eq_true]; exact eF96.symm); simp only [smTake, hT1, smT2, eq_false c_1, eq_true (Int32.not_lt.mp c_1), eq_true c_92, eq_false (Int32.not_lt.mpr c_92), eq_false c_97, eq_true (Int32.not_le.mp c_97), eq_true c_154, eq_false (Int32.not_lt.mpr c_154), eq_false c_155, eq_true c_156, eq_false (Int32.not_le.mpr c_156), eq_false c_157, eq_true (Int32.not_lt.mp c_157), eq_true c_158, eq_false (Int32.not_lt.mpr c_158), if_true, if_false, true_and, and_true, false_and, and_false, true_or, or_true, false_or, or_false, not_true_eq_false, not_false_eq_true, reduceIte, decide_true, decide_false, Bool.false_eq_true, ← eF96, ← eF162]; done) | (exfalso; simp only [Int32.lt_iff_toInt_lt, Int32.le_iff_toInt_le, ← Int32.toInt_inj, (show Int32.toInt 0 = 0 from rfl), (show Int32.toInt 1 = 1 from rfl), (show Int32.toInt 2 = 2 from rfl), (show Int32.toInt 3 = 3 from rfl), (show Int32.toInt 4 = 4 from rfl), (show Int32.toInt 5 = 5 from rfl), (show Int32.toInt 6 = 6 from rfl), (show Int32.toInt 7 = 7 from rfl), (show Int32.toInt 8 = 8 from rfl), (show Int32.toInt 9 = 9 from rfl), (show Int32.toInt 11 = 11 from rfl), (show Int32.toInt 12 = 12 from rfl), (show Int32.toInt 13 = 13 from rfl), (show Int32.toInt 15 = 15 from rfl), (show Int32.toInt 18 = 18 from rfl), (show Int32.toInt 19 = 19 from rfl)] at c_1 c_92 c_97 c_154 c_155 c_156 c_157 c_158; omega)), ((gFr.refl.up hU94 hM_0 (by simp)).up hU160 hU94.1 (by simp)), (by first | exact Nat.le_zero.mp hk9 | omega)⟩) dX5_take_179 (Nat.le_of_ble_eq_true rfl) (Nat.le_of_ble_eq_true rfl)
                · refine g_aload_n hC dX5_take_157 0 rfl gRef_r 158 rfl ?_
                  refine g_aload_n hC dX5_take_158 0 rfl gRef_r 159 rfl ?_
                  refine g_get (v := .int (F95 6)) hC cI4 hU94.1 6 (Nat.le_of_ble_eq_true rfl) q246 rfl dX5_take_159 162 rfl ?_
                  refine g_topi (y := s1 6) (by rw [eF96, pk_un (by omega)]) ?_
                  refine g_iconst hC dX5_take_162 ki_1 163 rfl ?_
                  refine g_ishl hC dX5_take_163 164 rfl ?_
                  refine g_iload_n hC dX5_take_164 1 rfl 165 rfl ?_
                  refine g_ior hC dX5_take_165 166 rfl ?_
                  obtain ⟨F165, eF166⟩ : ∃ z9, z9 = upd F95 6 (((s1 6) <<< (1 &&& 31)) ||| lev) := ⟨_, rfl⟩
                  refine g_put hC cI4 hU94.1 6 (Nat.le_of_ble_eq_true rfl) q246 rfl rfl rfl (Nat.le_of_ble_eq_true rfl) dX5_take_166 (fs' := smL G  F165) (by rw [eF166]; exact smL_s6) 169 rfl (fun M163 hU164 => ?_)
                  refine g_aload_n hC dX5_take_169 0 rfl gRef_r 170 rfl ?_
                  refine g_dup hC dX5_take_170 rfl 171 rfl ?_
                  refine g_get (v := .int (F165 2)) hC cI4 hU164.1 2 (Nat.le_of_ble_eq_true rfl) q238 rfl dX5_take_171 174 rfl ?_
                  refine g_topi (y := s1 2) (by rw [eF166, pk_un (by omega), eF96, pk_un (by omega)]) ?_
                  refine g_iconst hC dX5_take_174 ki_1 175 rfl ?_
                  refine g_iadd hC dX5_take_175 176 rfl ?_
                  obtain ⟨F169, eF170⟩ : ∃ z9, z9 = upd F165 2 ((s1 2) + 1) := ⟨_, rfl⟩
                  refine g_put hC cI4 hU164.1 2 (Nat.le_of_ble_eq_true rfl) q238 rfl rfl rfl (Nat.le_of_ble_eq_true rfl) dX5_take_176 (fs' := smL G  F169) (by rw [eF170]; exact smL_s2) 179 rfl (fun M167 hU168 => ?_)
                  exact g_vret hC (fun k9 hk9 => ⟨(by first | (rw [hU168.1]; have hT1 : smT1 s1 lev = F95 := (by simp only [smT1, eq_false c_1, eq_true (Int32.not_lt.mp c_1), eq_true c_92, eq_false (Int32.not_lt.mpr c_92), eq_false c_97, eq_true (Int32.not_le.mp c_97), eq_true c_154, eq_false (Int32.not_lt.mpr c_154), eq_false c_155, eq_true c_156, eq_false (Int32.not_le.mpr c_156), eq_false c_157, eq_true (Int32.not_lt.mp c_157), eq_false c_158, eq_true (Int32.not_le.mp c_158), if_true, if_false, true_and, and_true, false_and, and_false, true_or, or_true, false_or, or_false, not_true_eq_false, not_false_eq_true, reduceIte, decide_true, decide_false, Bool.false_eq_true]; exact eF96.symm); simp only [smTake, hT1, smT2, eq_false c_1, eq_true (Int32.not_lt.mp c_1), eq_true c_92, eq_false (Int32.not_lt.mpr c_92), eq_false c_97, eq_true (Int32.not_le.mp c_97), eq_true c_154, eq_false (Int32.not_lt.mpr c_154), eq_false c_155, eq_true c_156, eq_false (Int32.not_le.mpr c_156), eq_false c_157, eq_true (Int32.not_lt.mp c_157), eq_false c_158, eq_true (Int32.not_le.mp c_158), if_true, if_false, true_and, and_true, false_and, and_false, true_or, or_true, false_or, or_false, not_true_eq_false, not_false_eq_true, reduceIte, decide_true, decide_false, Bool.false_eq_true, ← eF96, ← eF166, ← eF170]; done) | (exfalso; simp only [Int32.lt_iff_toInt_lt, Int32.le_iff_toInt_le, ← Int32.toInt_inj, (show Int32.toInt 0 = 0 from rfl), (show Int32.toInt 1 = 1 from rfl), (show Int32.toInt 2 = 2 from rfl), (show Int32.toInt 3 = 3 from rfl), (show Int32.toInt 4 = 4 from rfl), (show Int32.toInt 5 = 5 from rfl), (show Int32.toInt 6 = 6 from rfl), (show Int32.toInt 7 = 7 from rfl), (show Int32.toInt 8 = 8 from rfl), (show Int32.toInt 9 = 9 from rfl), (show Int32.toInt 11 = 11 from rfl), (show Int32.toInt 12 = 12 from rfl), (show Int32.toInt 13 = 13 from rfl), (show Int32.toInt 15 = 15 from rfl), (show Int32.toInt 18 = 18 from rfl), (show Int32.toInt 19 = 19 from rfl)] at c_1 c_92 c_97 c_154 c_155 c_156 c_157 c_158; omega)), (((gFr.refl.up hU94 hM_0 (by simp)).up hU164 hU94.1 (by simp)).up hU168 hU164.1 (by simp)), (by first | exact Nat.le_zero.mp hk9 | omega)⟩) dX5_take_179 (Nat.le_of_ble_eq_true rfl) (Nat.le_of_ble_eq_true rfl)
            · refine g_aload_n hC dX5_take_113 0 rfl gRef_r 114 rfl ?_
              refine g_get (v := .int (F95 2)) hC cI4 hU94.1 2 (Nat.le_of_ble_eq_true rfl) q238 rfl dX5_take_114 117 rfl ?_
              refine g_topi (y := s1 2) (by rw [eF96, pk_un (by omega)]) ?_
              refine g_bipush hC dX5_take_117 kb_19 119 rfl ?_
              refine g_icmp_ge hC dX5_take_119 137 rfl 122 rfl (fun c_171 => ?_) (fun c_171 => ?_)
              · refine g_aload_n hC dX5_take_137 0 rfl gRef_r 138 rfl ?_
                refine g_get (v := .int (F95 2)) hC cI4 hU94.1 2 (Nat.le_of_ble_eq_true rfl) q238 rfl dX5_take_138 141 rfl ?_
                refine g_topi (y := s1 2) (by rw [eF96, pk_un (by omega)]) ?_
                refine g_bipush hC dX5_take_141 kb_19 143 rfl ?_
                refine g_icmp_lt hC dX5_take_143 169 rfl 146 rfl (fun c_172 => ?_) (fun c_172 => ?_)
                · exact absurd c_172 c_1
                · refine g_aload_n hC dX5_take_146 0 rfl gRef_r 147 rfl ?_
                  refine g_get (v := .int (F95 2)) hC cI4 hU94.1 2 (Nat.le_of_ble_eq_true rfl) q238 rfl dX5_take_147 150 rfl ?_
                  refine g_topi (y := s1 2) (by rw [eF96, pk_un (by omega)]) ?_
                  refine g_aload_n hC dX5_take_150 0 rfl gRef_r 151 rfl ?_
                  refine g_calliP (g_V (As := []) (rest := [.int (s1 2)]) hC mvX5_bare q1844 (gOf.of hC.K cI4 hU94.1) (met_Sg_bare l G M93 sa ts F95 hU94.1) ⟨rfl, rfl⟩ ⟨(Nat.le_of_ble_eq_true rfl), (Nat.le_of_ble_eq_true rfl)⟩ rfl (Nat.le_of_ble_eq_true rfl) dX5_take_151 rfl ⟨(Nat.le_of_ble_eq_true rfl), (Nat.le_of_ble_eq_true rfl)⟩) 154 rfl 0 (Nat.le_of_ble_eq_true rfl) ?_
                  refine g_icmp_ge hC dX5_take_154 169 rfl 157 rfl (fun c_173 => ?_) (fun c_173 => ?_)
                  · refine g_aload_n hC dX5_take_169 0 rfl gRef_r 170 rfl ?_
                    refine g_dup hC dX5_take_170 rfl 171 rfl ?_
                    refine g_get (v := .int (F95 2)) hC cI4 hU94.1 2 (Nat.le_of_ble_eq_true rfl) q238 rfl dX5_take_171 174 rfl ?_
                    refine g_topi (y := s1 2) (by rw [eF96, pk_un (by omega)]) ?_
                    refine g_iconst hC dX5_take_174 ki_1 175 rfl ?_
                    refine g_iadd hC dX5_take_175 176 rfl ?_
                    obtain ⟨F176, eF177⟩ : ∃ z9, z9 = upd F95 2 ((s1 2) + 1) := ⟨_, rfl⟩
                    refine g_put hC cI4 hU94.1 2 (Nat.le_of_ble_eq_true rfl) q238 rfl rfl rfl (Nat.le_of_ble_eq_true rfl) dX5_take_176 (fs' := smL G  F176) (by rw [eF177]; exact smL_s2) 179 rfl (fun M174 hU175 => ?_)
                    exact g_vret hC (fun k9 hk9 => ⟨(by first | (rw [hU175.1]; have hT1 : smT1 s1 lev = F95 := (by simp only [smT1, eq_false c_1, eq_true (Int32.not_lt.mp c_1), eq_true c_92, eq_false (Int32.not_lt.mpr c_92), eq_false c_97, eq_true (Int32.not_le.mp c_97), eq_true c_154, eq_false (Int32.not_lt.mpr c_154), eq_false c_155, eq_false c_156, eq_true (Int32.not_lt.mp c_156), eq_true c_171, eq_false (Int32.not_lt.mpr c_171), eq_false c_172, eq_true (Int32.not_lt.mp c_172), eq_true c_173, eq_false (Int32.not_lt.mpr c_173), if_true, if_false, true_and, and_true, false_and, and_false, true_or, or_true, false_or, or_false, not_true_eq_false, not_false_eq_true, reduceIte, decide_true, decide_false, Bool.false_eq_true]; exact eF96.symm); simp only [smTake, hT1, smT2, eq_false c_1, eq_true (Int32.not_lt.mp c_1), eq_true c_92, eq_false (Int32.not_lt.mpr c_92), eq_false c_97, eq_true (Int32.not_le.mp c_97), eq_true c_154, eq_false (Int32.not_lt.mpr c_154), eq_false c_155, eq_false c_156, eq_true (Int32.not_lt.mp c_156), eq_true c_171, eq_false (Int32.not_lt.mpr c_171), eq_false c_172, eq_true (Int32.not_lt.mp c_172), eq_true c_173, eq_false (Int32.not_lt.mpr c_173), if_true, if_false, true_and, and_true, false_and, and_false, true_or, or_true, false_or, or_false, not_true_eq_false, not_false_eq_true, reduceIte, decide_true, decide_false, Bool.false_eq_true, ← eF96, ← eF177]; done) | (exfalso; simp only [Int32.lt_iff_toInt_lt, Int32.le_iff_toInt_le, ← Int32.toInt_inj, (show Int32.toInt 0 = 0 from rfl), (show Int32.toInt 1 = 1 from rfl), (show Int32.toInt 2 = 2 from rfl), (show Int32.toInt 3 = 3 from rfl), (show Int32.toInt 4 = 4 from rfl), (show Int32.toInt 5 = 5 from rfl), (show Int32.toInt 6 = 6 from rfl), (show Int32.toInt 7 = 7 from rfl), (show Int32.toInt 8 = 8 from rfl), (show Int32.toInt 9 = 9 from rfl), (show Int32.toInt 11 = 11 from rfl), (show Int32.toInt 12 = 12 from rfl), (show Int32.toInt 13 = 13 from rfl), (show Int32.toInt 15 = 15 from rfl), (show Int32.toInt 18 = 18 from rfl), (show Int32.toInt 19 = 19 from rfl)] at c_1 c_92 c_97 c_154 c_155 c_156 c_171 c_172 c_173; omega)), ((gFr.refl.up hU94 hM_0 (by simp)).up hU175 hU94.1 (by simp)), (by first | exact Nat.le_zero.mp hk9 | omega)⟩) dX5_take_179 (Nat.le_of_ble_eq_true rfl) (Nat.le_of_ble_eq_true rfl)
                  · refine g_aload_n hC dX5_take_157 0 rfl gRef_r 158 rfl ?_
                    refine g_aload_n hC dX5_take_158 0 rfl gRef_r 159 rfl ?_
                    refine g_get (v := .int (F95 6)) hC cI4 hU94.1 6 (Nat.le_of_ble_eq_true rfl) q246 rfl dX5_take_159 162 rfl ?_
                    refine g_topi (y := s1 6) (by rw [eF96, pk_un (by omega)]) ?_
                    refine g_iconst hC dX5_take_162 ki_1 163 rfl ?_
                    refine g_ishl hC dX5_take_163 164 rfl ?_
                    refine g_iload_n hC dX5_take_164 1 rfl 165 rfl ?_
                    refine g_ior hC dX5_take_165 166 rfl ?_
                    obtain ⟨F180, eF181⟩ : ∃ z9, z9 = upd F95 6 (((s1 6) <<< (1 &&& 31)) ||| lev) := ⟨_, rfl⟩
                    refine g_put hC cI4 hU94.1 6 (Nat.le_of_ble_eq_true rfl) q246 rfl rfl rfl (Nat.le_of_ble_eq_true rfl) dX5_take_166 (fs' := smL G  F180) (by rw [eF181]; exact smL_s6) 169 rfl (fun M178 hU179 => ?_)
                    refine g_aload_n hC dX5_take_169 0 rfl gRef_r 170 rfl ?_
                    refine g_dup hC dX5_take_170 rfl 171 rfl ?_
                    refine g_get (v := .int (F180 2)) hC cI4 hU179.1 2 (Nat.le_of_ble_eq_true rfl) q238 rfl dX5_take_171 174 rfl ?_
                    refine g_topi (y := s1 2) (by rw [eF181, pk_un (by omega), eF96, pk_un (by omega)]) ?_
                    refine g_iconst hC dX5_take_174 ki_1 175 rfl ?_
                    refine g_iadd hC dX5_take_175 176 rfl ?_
                    obtain ⟨F184, eF185⟩ : ∃ z9, z9 = upd F180 2 ((s1 2) + 1) := ⟨_, rfl⟩
                    refine g_put hC cI4 hU179.1 2 (Nat.le_of_ble_eq_true rfl) q238 rfl rfl rfl (Nat.le_of_ble_eq_true rfl) dX5_take_176 (fs' := smL G  F184) (by rw [eF185]; exact smL_s2) 179 rfl (fun M182 hU183 => ?_)
                    exact g_vret hC (fun k9 hk9 => ⟨(by first | (rw [hU183.1]; have hT1 : smT1 s1 lev = F95 := (by simp only [smT1, eq_false c_1, eq_true (Int32.not_lt.mp c_1), eq_true c_92, eq_false (Int32.not_lt.mpr c_92), eq_false c_97, eq_true (Int32.not_le.mp c_97), eq_true c_154, eq_false (Int32.not_lt.mpr c_154), eq_false c_155, eq_false c_156, eq_true (Int32.not_lt.mp c_156), eq_true c_171, eq_false (Int32.not_lt.mpr c_171), eq_false c_172, eq_true (Int32.not_lt.mp c_172), eq_false c_173, eq_true (Int32.not_le.mp c_173), if_true, if_false, true_and, and_true, false_and, and_false, true_or, or_true, false_or, or_false, not_true_eq_false, not_false_eq_true, reduceIte, decide_true, decide_false, Bool.false_eq_true]; exact eF96.symm); simp only [smTake, hT1, smT2, eq_false c_1, eq_true (Int32.not_lt.mp c_1), eq_true c_92, eq_false (Int32.not_lt.mpr c_92), eq_false c_97, eq_true (Int32.not_le.mp c_97), eq_true c_154, eq_false (Int32.not_lt.mpr c_154), eq_false c_155, eq_false c_156, eq_true (Int32.not_lt.mp c_156), eq_true c_171, eq_false (Int32.not_lt.mpr c_171), eq_false c_172, eq_true (Int32.not_lt.mp c_172), eq_false c_173, eq_true (Int32.not_le.mp c_173), if_true, if_false, true_and, and_true, false_and, and_false, true_or, or_true, false_or, or_false, not_true_eq_false, not_false_eq_true, reduceIte, decide_true, decide_false, Bool.false_eq_true, ← eF96, ← eF181, ← eF185]; done) | (exfalso; simp only [Int32.lt_iff_toInt_lt, Int32.le_iff_toInt_le, ← Int32.toInt_inj, (show Int32.toInt 0 = 0 from rfl), (show Int32.toInt 1 = 1 from rfl), (show Int32.toInt 2 = 2 from rfl), (show Int32.toInt 3 = 3 from rfl), (show Int32.toInt 4 = 4 from rfl), (show Int32.toInt 5 = 5 from rfl), (show Int32.toInt 6 = 6 from rfl), (show Int32.toInt 7 = 7 from rfl), (show Int32.toInt 8 = 8 from rfl), (show Int32.toInt 9 = 9 from rfl), (show Int32.toInt 11 = 11 from rfl), (show Int32.toInt 12 = 12 from rfl), (show Int32.toInt 13 = 13 from rfl), (show Int32.toInt 15 = 15 from rfl), (show Int32.toInt 18 = 18 from rfl), (show Int32.toInt 19 = 19 from rfl)] at c_1 c_92 c_97 c_154 c_155 c_156 c_171 c_172 c_173; omega)), (((gFr.refl.up hU94 hM_0 (by simp)).up hU179 hU94.1 (by simp)).up hU183 hU179.1 (by simp)), (by first | exact Nat.le_zero.mp hk9 | omega)⟩) dX5_take_179 (Nat.le_of_ble_eq_true rfl) (Nat.le_of_ble_eq_true rfl)
              · refine g_aload_n hC dX5_take_122 0 rfl gRef_r 123 rfl ?_
                refine g_aload_n hC dX5_take_123 0 rfl gRef_r 124 rfl ?_
                refine g_get (v := .int (F95 5)) hC cI4 hU94.1 5 (Nat.le_of_ble_eq_true rfl) q244 rfl dX5_take_124 127 rfl ?_
                refine g_topi (y := s1 5) (by rw [eF96, pk_un (by omega)]) ?_
                refine g_iconst hC dX5_take_127 ki_1 128 rfl ?_
                refine g_ishl hC dX5_take_128 129 rfl ?_
                refine g_iload_n hC dX5_take_129 1 rfl 130 rfl ?_
                refine g_ior hC dX5_take_130 131 rfl ?_
                obtain ⟨F188, eF189⟩ : ∃ z9, z9 = upd F95 5 (((s1 5) <<< (1 &&& 31)) ||| lev) := ⟨_, rfl⟩
                refine g_put hC cI4 hU94.1 5 (Nat.le_of_ble_eq_true rfl) q244 rfl rfl rfl (Nat.le_of_ble_eq_true rfl) dX5_take_131 (fs' := smL G  F188) (by rw [eF189]; exact smL_s5) 134 rfl (fun M186 hU187 => ?_)
                refine g_goto hC dX5_take_134 169 rfl ?_
                refine g_aload_n hC dX5_take_169 0 rfl gRef_r 170 rfl ?_
                refine g_dup hC dX5_take_170 rfl 171 rfl ?_
                refine g_get (v := .int (F188 2)) hC cI4 hU187.1 2 (Nat.le_of_ble_eq_true rfl) q238 rfl dX5_take_171 174 rfl ?_
                refine g_topi (y := s1 2) (by rw [eF189, pk_un (by omega), eF96, pk_un (by omega)]) ?_
                refine g_iconst hC dX5_take_174 ki_1 175 rfl ?_
                refine g_iadd hC dX5_take_175 176 rfl ?_
                obtain ⟨F192, eF193⟩ : ∃ z9, z9 = upd F188 2 ((s1 2) + 1) := ⟨_, rfl⟩
                refine g_put hC cI4 hU187.1 2 (Nat.le_of_ble_eq_true rfl) q238 rfl rfl rfl (Nat.le_of_ble_eq_true rfl) dX5_take_176 (fs' := smL G  F192) (by rw [eF193]; exact smL_s2) 179 rfl (fun M190 hU191 => ?_)
                exact g_vret hC (fun k9 hk9 => ⟨(by first | (rw [hU191.1]; have hT1 : smT1 s1 lev = F95 := (by simp only [smT1, eq_false c_1, eq_true (Int32.not_lt.mp c_1), eq_true c_92, eq_false (Int32.not_lt.mpr c_92), eq_false c_97, eq_true (Int32.not_le.mp c_97), eq_true c_154, eq_false (Int32.not_lt.mpr c_154), eq_false c_155, eq_false c_156, eq_true (Int32.not_lt.mp c_156), eq_false c_171, eq_true (Int32.not_le.mp c_171), if_true, if_false, true_and, and_true, false_and, and_false, true_or, or_true, false_or, or_false, not_true_eq_false, not_false_eq_true, reduceIte, decide_true, decide_false, Bool.false_eq_true]; exact eF96.symm); simp only [smTake, hT1, smT2, eq_false c_1, eq_true (Int32.not_lt.mp c_1), eq_true c_92, eq_false (Int32.not_lt.mpr c_92), eq_false c_97, eq_true (Int32.not_le.mp c_97), eq_true c_154, eq_false (Int32.not_lt.mpr c_154), eq_false c_155, eq_false c_156, eq_true (Int32.not_lt.mp c_156), eq_false c_171, eq_true (Int32.not_le.mp c_171), if_true, if_false, true_and, and_true, false_and, and_false, true_or, or_true, false_or, or_false, not_true_eq_false, not_false_eq_true, reduceIte, decide_true, decide_false, Bool.false_eq_true, ← eF96, ← eF189, ← eF193]; done) | (exfalso; simp only [Int32.lt_iff_toInt_lt, Int32.le_iff_toInt_le, ← Int32.toInt_inj, (show Int32.toInt 0 = 0 from rfl), (show Int32.toInt 1 = 1 from rfl), (show Int32.toInt 2 = 2 from rfl), (show Int32.toInt 3 = 3 from rfl), (show Int32.toInt 4 = 4 from rfl), (show Int32.toInt 5 = 5 from rfl), (show Int32.toInt 6 = 6 from rfl), (show Int32.toInt 7 = 7 from rfl), (show Int32.toInt 8 = 8 from rfl), (show Int32.toInt 9 = 9 from rfl), (show Int32.toInt 11 = 11 from rfl), (show Int32.toInt 12 = 12 from rfl), (show Int32.toInt 13 = 13 from rfl), (show Int32.toInt 15 = 15 from rfl), (show Int32.toInt 18 = 18 from rfl), (show Int32.toInt 19 = 19 from rfl)] at c_1 c_92 c_97 c_154 c_155 c_156 c_171; omega)), (((gFr.refl.up hU94 hM_0 (by simp)).up hU187 hU94.1 (by simp)).up hU191 hU187.1 (by simp)), (by first | exact Nat.le_zero.mp hk9 | omega)⟩) dX5_take_179 (Nat.le_of_ble_eq_true rfl) (Nat.le_of_ble_eq_true rfl)
          · refine g_aload_n hC dX5_take_87 0 rfl gRef_r 88 rfl ?_
            refine g_iload_n hC dX5_take_88 1 rfl 89 rfl ?_
            refine g_iconst hC dX5_take_89 ki_1 90 rfl ?_
            refine g_icmp_ne hC dX5_take_90 97 rfl 93 rfl (fun c_194 => ?_) (fun c_194 => ?_)
            · refine g_iconst hC dX5_take_97 ki_0 98 rfl ?_
              obtain ⟨F197, eF198⟩ : ∃ z9, z9 = upd F95 4 0 := ⟨_, rfl⟩
              refine g_put hC cI4 hU94.1 4 (Nat.le_of_ble_eq_true rfl) q242 rfl (by decide) rfl (Nat.le_of_ble_eq_true rfl) dX5_take_98 (fs' := smL G  F197) (by rw [eF198]; exact smL_s4) 101 rfl (fun M195 hU196 => ?_)
              refine g_goto hC dX5_take_101 169 rfl ?_
              refine g_aload_n hC dX5_take_169 0 rfl gRef_r 170 rfl ?_
              refine g_dup hC dX5_take_170 rfl 171 rfl ?_
              refine g_get (v := .int (F197 2)) hC cI4 hU196.1 2 (Nat.le_of_ble_eq_true rfl) q238 rfl dX5_take_171 174 rfl ?_
              refine g_topi (y := s1 2) (by rw [eF198, pk_un (by omega), eF96, pk_un (by omega)]) ?_
              refine g_iconst hC dX5_take_174 ki_1 175 rfl ?_
              refine g_iadd hC dX5_take_175 176 rfl ?_
              obtain ⟨F201, eF202⟩ : ∃ z9, z9 = upd F197 2 ((s1 2) + 1) := ⟨_, rfl⟩
              refine g_put hC cI4 hU196.1 2 (Nat.le_of_ble_eq_true rfl) q238 rfl rfl rfl (Nat.le_of_ble_eq_true rfl) dX5_take_176 (fs' := smL G  F201) (by rw [eF202]; exact smL_s2) 179 rfl (fun M199 hU200 => ?_)
              exact g_vret hC (fun k9 hk9 => ⟨(by first | (rw [hU200.1]; have hT1 : smT1 s1 lev = F95 := (by simp only [smT1, eq_false c_1, eq_true (Int32.not_lt.mp c_1), eq_true c_92, eq_false (Int32.not_lt.mpr c_92), eq_false c_97, eq_true (Int32.not_le.mp c_97), eq_true c_154, eq_false (Int32.not_lt.mpr c_154), eq_true c_155, eq_false c_194, if_true, if_false, true_and, and_true, false_and, and_false, true_or, or_true, false_or, or_false, not_true_eq_false, not_false_eq_true, reduceIte, decide_true, decide_false, Bool.false_eq_true]; exact eF96.symm); simp only [smTake, hT1, smT2, eq_false c_1, eq_true (Int32.not_lt.mp c_1), eq_true c_92, eq_false (Int32.not_lt.mpr c_92), eq_false c_97, eq_true (Int32.not_le.mp c_97), eq_true c_154, eq_false (Int32.not_lt.mpr c_154), eq_true c_155, eq_false c_194, if_true, if_false, true_and, and_true, false_and, and_false, true_or, or_true, false_or, or_false, not_true_eq_false, not_false_eq_true, reduceIte, decide_true, decide_false, Bool.false_eq_true, ← eF96, ← eF198, ← eF202]; done) | (exfalso; simp only [Int32.lt_iff_toInt_lt, Int32.le_iff_toInt_le, ← Int32.toInt_inj, (show Int32.toInt 0 = 0 from rfl), (show Int32.toInt 1 = 1 from rfl), (show Int32.toInt 2 = 2 from rfl), (show Int32.toInt 3 = 3 from rfl), (show Int32.toInt 4 = 4 from rfl), (show Int32.toInt 5 = 5 from rfl), (show Int32.toInt 6 = 6 from rfl), (show Int32.toInt 7 = 7 from rfl), (show Int32.toInt 8 = 8 from rfl), (show Int32.toInt 9 = 9 from rfl), (show Int32.toInt 11 = 11 from rfl), (show Int32.toInt 12 = 12 from rfl), (show Int32.toInt 13 = 13 from rfl), (show Int32.toInt 15 = 15 from rfl), (show Int32.toInt 18 = 18 from rfl), (show Int32.toInt 19 = 19 from rfl)] at c_1 c_92 c_97 c_154 c_155 c_194; omega)), (((gFr.refl.up hU94 hM_0 (by simp)).up hU196 hU94.1 (by simp)).up hU200 hU196.1 (by simp)), (by first | exact Nat.le_zero.mp hk9 | omega)⟩) dX5_take_179 (Nat.le_of_ble_eq_true rfl) (Nat.le_of_ble_eq_true rfl)
            · refine g_iconst hC dX5_take_93 ki_1 94 rfl ?_
              refine g_goto hC dX5_take_94 98 rfl ?_
              obtain ⟨F205, eF206⟩ : ∃ z9, z9 = upd F95 4 1 := ⟨_, rfl⟩
              refine g_put hC cI4 hU94.1 4 (Nat.le_of_ble_eq_true rfl) q242 rfl (by decide) rfl (Nat.le_of_ble_eq_true rfl) dX5_take_98 (fs' := smL G  F205) (by rw [eF206]; exact smL_s4) 101 rfl (fun M203 hU204 => ?_)
              refine g_goto hC dX5_take_101 169 rfl ?_
              refine g_aload_n hC dX5_take_169 0 rfl gRef_r 170 rfl ?_
              refine g_dup hC dX5_take_170 rfl 171 rfl ?_
              refine g_get (v := .int (F205 2)) hC cI4 hU204.1 2 (Nat.le_of_ble_eq_true rfl) q238 rfl dX5_take_171 174 rfl ?_
              refine g_topi (y := s1 2) (by rw [eF206, pk_un (by omega), eF96, pk_un (by omega)]) ?_
              refine g_iconst hC dX5_take_174 ki_1 175 rfl ?_
              refine g_iadd hC dX5_take_175 176 rfl ?_
              obtain ⟨F209, eF210⟩ : ∃ z9, z9 = upd F205 2 ((s1 2) + 1) := ⟨_, rfl⟩
              refine g_put hC cI4 hU204.1 2 (Nat.le_of_ble_eq_true rfl) q238 rfl rfl rfl (Nat.le_of_ble_eq_true rfl) dX5_take_176 (fs' := smL G  F209) (by rw [eF210]; exact smL_s2) 179 rfl (fun M207 hU208 => ?_)
              exact g_vret hC (fun k9 hk9 => ⟨(by first | (rw [hU208.1]; have hT1 : smT1 s1 lev = F95 := (by simp only [smT1, eq_false c_1, eq_true (Int32.not_lt.mp c_1), eq_true c_92, eq_false (Int32.not_lt.mpr c_92), eq_false c_97, eq_true (Int32.not_le.mp c_97), eq_true c_154, eq_false (Int32.not_lt.mpr c_154), eq_true c_155, eq_true c_194, if_true, if_false, true_and, and_true, false_and, and_false, true_or, or_true, false_or, or_false, not_true_eq_false, not_false_eq_true, reduceIte, decide_true, decide_false, Bool.false_eq_true]; exact eF96.symm); simp only [smTake, hT1, smT2, eq_false c_1, eq_true (Int32.not_lt.mp c_1), eq_true c_92, eq_false (Int32.not_lt.mpr c_92), eq_false c_97, eq_true (Int32.not_le.mp c_97), eq_true c_154, eq_false (Int32.not_lt.mpr c_154), eq_true c_155, eq_true c_194, if_true, if_false, true_and, and_true, false_and, and_false, true_or, or_true, false_or, or_false, not_true_eq_false, not_false_eq_true, reduceIte, decide_true, decide_false, Bool.false_eq_true, ← eF96, ← eF206, ← eF210]; done) | (exfalso; simp only [Int32.lt_iff_toInt_lt, Int32.le_iff_toInt_le, ← Int32.toInt_inj, (show Int32.toInt 0 = 0 from rfl), (show Int32.toInt 1 = 1 from rfl), (show Int32.toInt 2 = 2 from rfl), (show Int32.toInt 3 = 3 from rfl), (show Int32.toInt 4 = 4 from rfl), (show Int32.toInt 5 = 5 from rfl), (show Int32.toInt 6 = 6 from rfl), (show Int32.toInt 7 = 7 from rfl), (show Int32.toInt 8 = 8 from rfl), (show Int32.toInt 9 = 9 from rfl), (show Int32.toInt 11 = 11 from rfl), (show Int32.toInt 12 = 12 from rfl), (show Int32.toInt 13 = 13 from rfl), (show Int32.toInt 15 = 15 from rfl), (show Int32.toInt 18 = 18 from rfl), (show Int32.toInt 19 = 19 from rfl)] at c_1 c_92 c_97 c_154 c_155 c_194; omega)), (((gFr.refl.up hU94 hM_0 (by simp)).up hU204 hU94.1 (by simp)).up hU208 hU204.1 (by simp)), (by first | exact Nat.le_zero.mp hk9 | omega)⟩) dX5_take_179 (Nat.le_of_ble_eq_true rfl) (Nat.le_of_ble_eq_true rfl)
        · refine g_aload_n hC dX5_take_63 0 rfl gRef_r 64 rfl ?_
          refine g_aload_n hC dX5_take_64 0 rfl gRef_r 65 rfl ?_
          refine g_get (v := .int (F95 3)) hC cI4 hU94.1 3 (Nat.le_of_ble_eq_true rfl) q240 rfl dX5_take_65 68 rfl ?_
          refine g_topi (y := s1 3) (by rw [eF96, pk_un (by omega)]) ?_
          refine g_iconst hC dX5_take_68 ki_1 69 rfl ?_
          refine g_ishl hC dX5_take_69 70 rfl ?_
          refine g_iload_n hC dX5_take_70 1 rfl 71 rfl ?_
          refine g_ior hC dX5_take_71 72 rfl ?_
          obtain ⟨F213, eF214⟩ : ∃ z9, z9 = upd F95 3 (((s1 3) <<< (1 &&& 31)) ||| lev) := ⟨_, rfl⟩
          refine g_put hC cI4 hU94.1 3 (Nat.le_of_ble_eq_true rfl) q240 rfl rfl rfl (Nat.le_of_ble_eq_true rfl) dX5_take_72 (fs' := smL G  F213) (by rw [eF214]; exact smL_s3) 75 rfl (fun M211 hU212 => ?_)
          refine g_goto hC dX5_take_75 169 rfl ?_
          refine g_aload_n hC dX5_take_169 0 rfl gRef_r 170 rfl ?_
          refine g_dup hC dX5_take_170 rfl 171 rfl ?_
          refine g_get (v := .int (F213 2)) hC cI4 hU212.1 2 (Nat.le_of_ble_eq_true rfl) q238 rfl dX5_take_171 174 rfl ?_
          refine g_topi (y := s1 2) (by rw [eF214, pk_un (by omega), eF96, pk_un (by omega)]) ?_
          refine g_iconst hC dX5_take_174 ki_1 175 rfl ?_
          refine g_iadd hC dX5_take_175 176 rfl ?_
          obtain ⟨F217, eF218⟩ : ∃ z9, z9 = upd F213 2 ((s1 2) + 1) := ⟨_, rfl⟩
          refine g_put hC cI4 hU212.1 2 (Nat.le_of_ble_eq_true rfl) q238 rfl rfl rfl (Nat.le_of_ble_eq_true rfl) dX5_take_176 (fs' := smL G  F217) (by rw [eF218]; exact smL_s2) 179 rfl (fun M215 hU216 => ?_)
          exact g_vret hC (fun k9 hk9 => ⟨(by first | (rw [hU216.1]; have hT1 : smT1 s1 lev = F95 := (by simp only [smT1, eq_false c_1, eq_true (Int32.not_lt.mp c_1), eq_true c_92, eq_false (Int32.not_lt.mpr c_92), eq_false c_97, eq_true (Int32.not_le.mp c_97), eq_false c_154, eq_true (Int32.not_le.mp c_154), if_true, if_false, true_and, and_true, false_and, and_false, true_or, or_true, false_or, or_false, not_true_eq_false, not_false_eq_true, reduceIte, decide_true, decide_false, Bool.false_eq_true]; exact eF96.symm); simp only [smTake, hT1, smT2, eq_false c_1, eq_true (Int32.not_lt.mp c_1), eq_true c_92, eq_false (Int32.not_lt.mpr c_92), eq_false c_97, eq_true (Int32.not_le.mp c_97), eq_false c_154, eq_true (Int32.not_le.mp c_154), if_true, if_false, true_and, and_true, false_and, and_false, true_or, or_true, false_or, or_false, not_true_eq_false, not_false_eq_true, reduceIte, decide_true, decide_false, Bool.false_eq_true, ← eF96, ← eF214, ← eF218]; done) | (exfalso; simp only [Int32.lt_iff_toInt_lt, Int32.le_iff_toInt_le, ← Int32.toInt_inj, (show Int32.toInt 0 = 0 from rfl), (show Int32.toInt 1 = 1 from rfl), (show Int32.toInt 2 = 2 from rfl), (show Int32.toInt 3 = 3 from rfl), (show Int32.toInt 4 = 4 from rfl), (show Int32.toInt 5 = 5 from rfl), (show Int32.toInt 6 = 6 from rfl), (show Int32.toInt 7 = 7 from rfl), (show Int32.toInt 8 = 8 from rfl), (show Int32.toInt 9 = 9 from rfl), (show Int32.toInt 11 = 11 from rfl), (show Int32.toInt 12 = 12 from rfl), (show Int32.toInt 13 = 13 from rfl), (show Int32.toInt 15 = 15 from rfl), (show Int32.toInt 18 = 18 from rfl), (show Int32.toInt 19 = 19 from rfl)] at c_1 c_92 c_97 c_154; omega)), (((gFr.refl.up hU94 hM_0 (by simp)).up hU212 hU94.1 (by simp)).up hU216 hU212.1 (by simp)), (by first | exact Nat.le_zero.mp hk9 | omega)⟩) dX5_take_179 (Nat.le_of_ble_eq_true rfl) (Nat.le_of_ble_eq_true rfl)
    · refine g_aload_n hC dX5_take_20 0 rfl gRef_r 21 rfl ?_
      refine g_aload_n hC dX5_take_21 0 rfl gRef_r 22 rfl ?_
      refine g_get (v := .int (s1 7)) hC cI4 hM_0 7 (Nat.le_of_ble_eq_true rfl) q248 rfl dX5_take_22 25 rfl ?_
      refine g_iload_n hC dX5_take_25 1 rfl 26 rfl ?_
      refine g_calliP (g_SN (As := [.int (s1 7), .int lev]) (rest := [.ref sa]) hC msX0_shifted q2159 (met_shifted l G M (s1 7) lev) ⟨rfl, rfl⟩ ⟨(Nat.le_of_ble_eq_true rfl), (Nat.le_of_ble_eq_true rfl)⟩ rfl (Nat.le_of_ble_eq_true rfl) dX5_take_26 rfl ⟨(Nat.le_of_ble_eq_true rfl), (Nat.le_of_ble_eq_true rfl)⟩) 29 rfl 0 (Nat.le_of_ble_eq_true rfl) ?_
      obtain ⟨F221, eF222⟩ : ∃ z9, z9 = upd s1 7 (crcS (s1 7) lev) := ⟨_, rfl⟩
      refine g_put hC cI4 hM_0 7 (Nat.le_of_ble_eq_true rfl) q248 rfl rfl rfl (Nat.le_of_ble_eq_true rfl) dX5_take_29 (fs' := smL G  F221) (by rw [eF222]; exact smL_s7) 32 rfl (fun M219 hU220 => ?_)
      refine g_goto hC dX5_take_32 47 rfl ?_
      refine g_aload_n hC dX5_take_47 0 rfl gRef_r 48 rfl ?_
      refine g_get (v := .int (F221 2)) hC cI4 hU220.1 2 (Nat.le_of_ble_eq_true rfl) q238 rfl dX5_take_48 51 rfl ?_
      refine g_topi (y := s1 2) (by rw [eF222, pk_un (by omega)]) ?_
      refine g_if_le hC dX5_take_51 78 rfl 54 rfl (fun c_223 => ?_) (fun c_223 => ?_)
      · refine g_aload_n hC dX5_take_78 0 rfl gRef_r 79 rfl ?_
        refine g_get (v := .int (F221 2)) hC cI4 hU220.1 2 (Nat.le_of_ble_eq_true rfl) q238 rfl dX5_take_79 82 rfl ?_
        refine g_topi (y := s1 2) (by rw [eF222, pk_un (by omega)]) ?_
        refine g_bipush hC dX5_take_82 kb_12 84 rfl ?_
        refine g_icmp_ne hC dX5_take_84 104 rfl 87 rfl (fun c_224 => ?_) (fun c_224 => ?_)
        · refine g_aload_n hC dX5_take_104 0 rfl gRef_r 105 rfl ?_
          refine g_get (v := .int (F221 2)) hC cI4 hU220.1 2 (Nat.le_of_ble_eq_true rfl) q238 rfl dX5_take_105 108 rfl ?_
          refine g_topi (y := s1 2) (by rw [eF222, pk_un (by omega)]) ?_
          refine g_bipush hC dX5_take_108 kb_15 110 rfl ?_
          refine g_icmp_lt hC dX5_take_110 137 rfl 113 rfl (fun c_225 => ?_) (fun c_225 => ?_)
          · refine g_aload_n hC dX5_take_137 0 rfl gRef_r 138 rfl ?_
            refine g_get (v := .int (F221 2)) hC cI4 hU220.1 2 (Nat.le_of_ble_eq_true rfl) q238 rfl dX5_take_138 141 rfl ?_
            refine g_topi (y := s1 2) (by rw [eF222, pk_un (by omega)]) ?_
            refine g_bipush hC dX5_take_141 kb_19 143 rfl ?_
            refine g_icmp_lt hC dX5_take_143 169 rfl 146 rfl (fun c_226 => ?_) (fun c_226 => ?_)
            · exact absurd c_226 c_1
            · refine g_aload_n hC dX5_take_146 0 rfl gRef_r 147 rfl ?_
              refine g_get (v := .int (F221 2)) hC cI4 hU220.1 2 (Nat.le_of_ble_eq_true rfl) q238 rfl dX5_take_147 150 rfl ?_
              refine g_topi (y := s1 2) (by rw [eF222, pk_un (by omega)]) ?_
              refine g_aload_n hC dX5_take_150 0 rfl gRef_r 151 rfl ?_
              refine g_calliP (g_V (As := []) (rest := [.int (s1 2)]) hC mvX5_bare q1844 (gOf.of hC.K cI4 hU220.1) (met_Sg_bare l G M219 sa ts F221 hU220.1) ⟨rfl, rfl⟩ ⟨(Nat.le_of_ble_eq_true rfl), (Nat.le_of_ble_eq_true rfl)⟩ rfl (Nat.le_of_ble_eq_true rfl) dX5_take_151 rfl ⟨(Nat.le_of_ble_eq_true rfl), (Nat.le_of_ble_eq_true rfl)⟩) 154 rfl 0 (Nat.le_of_ble_eq_true rfl) ?_
              refine g_icmp_ge hC dX5_take_154 169 rfl 157 rfl (fun c_227 => ?_) (fun c_227 => ?_)
              · refine g_aload_n hC dX5_take_169 0 rfl gRef_r 170 rfl ?_
                refine g_dup hC dX5_take_170 rfl 171 rfl ?_
                refine g_get (v := .int (F221 2)) hC cI4 hU220.1 2 (Nat.le_of_ble_eq_true rfl) q238 rfl dX5_take_171 174 rfl ?_
                refine g_topi (y := s1 2) (by rw [eF222, pk_un (by omega)]) ?_
                refine g_iconst hC dX5_take_174 ki_1 175 rfl ?_
                refine g_iadd hC dX5_take_175 176 rfl ?_
                obtain ⟨F230, eF231⟩ : ∃ z9, z9 = upd F221 2 ((s1 2) + 1) := ⟨_, rfl⟩
                refine g_put hC cI4 hU220.1 2 (Nat.le_of_ble_eq_true rfl) q238 rfl rfl rfl (Nat.le_of_ble_eq_true rfl) dX5_take_176 (fs' := smL G  F230) (by rw [eF231]; exact smL_s2) 179 rfl (fun M228 hU229 => ?_)
                exact g_vret hC (fun k9 hk9 => ⟨(by first | (rw [hU229.1]; have hT1 : smT1 s1 lev = F221 := (by simp only [smT1, eq_false c_1, eq_true (Int32.not_lt.mp c_1), eq_false c_92, eq_true (Int32.not_le.mp c_92), eq_true c_223, eq_false (Int32.not_lt.mpr c_223), eq_false c_224, eq_true c_225, eq_false (Int32.not_le.mpr c_225), eq_false c_226, eq_true (Int32.not_lt.mp c_226), eq_true c_227, eq_false (Int32.not_lt.mpr c_227), if_true, if_false, true_and, and_true, false_and, and_false, true_or, or_true, false_or, or_false, not_true_eq_false, not_false_eq_true, reduceIte, decide_true, decide_false, Bool.false_eq_true]; exact eF222.symm); simp only [smTake, hT1, smT2, eq_false c_1, eq_true (Int32.not_lt.mp c_1), eq_false c_92, eq_true (Int32.not_le.mp c_92), eq_true c_223, eq_false (Int32.not_lt.mpr c_223), eq_false c_224, eq_true c_225, eq_false (Int32.not_le.mpr c_225), eq_false c_226, eq_true (Int32.not_lt.mp c_226), eq_true c_227, eq_false (Int32.not_lt.mpr c_227), if_true, if_false, true_and, and_true, false_and, and_false, true_or, or_true, false_or, or_false, not_true_eq_false, not_false_eq_true, reduceIte, decide_true, decide_false, Bool.false_eq_true, ← eF222, ← eF231]; done) | (exfalso; simp only [Int32.lt_iff_toInt_lt, Int32.le_iff_toInt_le, ← Int32.toInt_inj, (show Int32.toInt 0 = 0 from rfl), (show Int32.toInt 1 = 1 from rfl), (show Int32.toInt 2 = 2 from rfl), (show Int32.toInt 3 = 3 from rfl), (show Int32.toInt 4 = 4 from rfl), (show Int32.toInt 5 = 5 from rfl), (show Int32.toInt 6 = 6 from rfl), (show Int32.toInt 7 = 7 from rfl), (show Int32.toInt 8 = 8 from rfl), (show Int32.toInt 9 = 9 from rfl), (show Int32.toInt 11 = 11 from rfl), (show Int32.toInt 12 = 12 from rfl), (show Int32.toInt 13 = 13 from rfl), (show Int32.toInt 15 = 15 from rfl), (show Int32.toInt 18 = 18 from rfl), (show Int32.toInt 19 = 19 from rfl)] at c_1 c_92 c_223 c_224 c_225 c_226 c_227; omega)), ((gFr.refl.up hU220 hM_0 (by simp)).up hU229 hU220.1 (by simp)), (by first | exact Nat.le_zero.mp hk9 | omega)⟩) dX5_take_179 (Nat.le_of_ble_eq_true rfl) (Nat.le_of_ble_eq_true rfl)
              · refine g_aload_n hC dX5_take_157 0 rfl gRef_r 158 rfl ?_
                refine g_aload_n hC dX5_take_158 0 rfl gRef_r 159 rfl ?_
                refine g_get (v := .int (F221 6)) hC cI4 hU220.1 6 (Nat.le_of_ble_eq_true rfl) q246 rfl dX5_take_159 162 rfl ?_
                refine g_topi (y := s1 6) (by rw [eF222, pk_un (by omega)]) ?_
                refine g_iconst hC dX5_take_162 ki_1 163 rfl ?_
                refine g_ishl hC dX5_take_163 164 rfl ?_
                refine g_iload_n hC dX5_take_164 1 rfl 165 rfl ?_
                refine g_ior hC dX5_take_165 166 rfl ?_
                obtain ⟨F234, eF235⟩ : ∃ z9, z9 = upd F221 6 (((s1 6) <<< (1 &&& 31)) ||| lev) := ⟨_, rfl⟩
                refine g_put hC cI4 hU220.1 6 (Nat.le_of_ble_eq_true rfl) q246 rfl rfl rfl (Nat.le_of_ble_eq_true rfl) dX5_take_166 (fs' := smL G  F234) (by rw [eF235]; exact smL_s6) 169 rfl (fun M232 hU233 => ?_)
                refine g_aload_n hC dX5_take_169 0 rfl gRef_r 170 rfl ?_
                refine g_dup hC dX5_take_170 rfl 171 rfl ?_
                refine g_get (v := .int (F234 2)) hC cI4 hU233.1 2 (Nat.le_of_ble_eq_true rfl) q238 rfl dX5_take_171 174 rfl ?_
                refine g_topi (y := s1 2) (by rw [eF235, pk_un (by omega), eF222, pk_un (by omega)]) ?_
                refine g_iconst hC dX5_take_174 ki_1 175 rfl ?_
                refine g_iadd hC dX5_take_175 176 rfl ?_
                obtain ⟨F238, eF239⟩ : ∃ z9, z9 = upd F234 2 ((s1 2) + 1) := ⟨_, rfl⟩
                refine g_put hC cI4 hU233.1 2 (Nat.le_of_ble_eq_true rfl) q238 rfl rfl rfl (Nat.le_of_ble_eq_true rfl) dX5_take_176 (fs' := smL G  F238) (by rw [eF239]; exact smL_s2) 179 rfl (fun M236 hU237 => ?_)
                exact g_vret hC (fun k9 hk9 => ⟨(by first | (rw [hU237.1]; have hT1 : smT1 s1 lev = F221 := (by simp only [smT1, eq_false c_1, eq_true (Int32.not_lt.mp c_1), eq_false c_92, eq_true (Int32.not_le.mp c_92), eq_true c_223, eq_false (Int32.not_lt.mpr c_223), eq_false c_224, eq_true c_225, eq_false (Int32.not_le.mpr c_225), eq_false c_226, eq_true (Int32.not_lt.mp c_226), eq_false c_227, eq_true (Int32.not_le.mp c_227), if_true, if_false, true_and, and_true, false_and, and_false, true_or, or_true, false_or, or_false, not_true_eq_false, not_false_eq_true, reduceIte, decide_true, decide_false, Bool.false_eq_true]; exact eF222.symm); simp only [smTake, hT1, smT2, eq_false c_1, eq_true (Int32.not_lt.mp c_1), eq_false c_92, eq_true (Int32.not_le.mp c_92), eq_true c_223, eq_false (Int32.not_lt.mpr c_223), eq_false c_224, eq_true c_225, eq_false (Int32.not_le.mpr c_225), eq_false c_226, eq_true (Int32.not_lt.mp c_226), eq_false c_227, eq_true (Int32.not_le.mp c_227), if_true, if_false, true_and, and_true, false_and, and_false, true_or, or_true, false_or, or_false, not_true_eq_false, not_false_eq_true, reduceIte, decide_true, decide_false, Bool.false_eq_true, ← eF222, ← eF235, ← eF239]; done) | (exfalso; simp only [Int32.lt_iff_toInt_lt, Int32.le_iff_toInt_le, ← Int32.toInt_inj, (show Int32.toInt 0 = 0 from rfl), (show Int32.toInt 1 = 1 from rfl), (show Int32.toInt 2 = 2 from rfl), (show Int32.toInt 3 = 3 from rfl), (show Int32.toInt 4 = 4 from rfl), (show Int32.toInt 5 = 5 from rfl), (show Int32.toInt 6 = 6 from rfl), (show Int32.toInt 7 = 7 from rfl), (show Int32.toInt 8 = 8 from rfl), (show Int32.toInt 9 = 9 from rfl), (show Int32.toInt 11 = 11 from rfl), (show Int32.toInt 12 = 12 from rfl), (show Int32.toInt 13 = 13 from rfl), (show Int32.toInt 15 = 15 from rfl), (show Int32.toInt 18 = 18 from rfl), (show Int32.toInt 19 = 19 from rfl)] at c_1 c_92 c_223 c_224 c_225 c_226 c_227; omega)), (((gFr.refl.up hU220 hM_0 (by simp)).up hU233 hU220.1 (by simp)).up hU237 hU233.1 (by simp)), (by first | exact Nat.le_zero.mp hk9 | omega)⟩) dX5_take_179 (Nat.le_of_ble_eq_true rfl) (Nat.le_of_ble_eq_true rfl)
          · refine g_aload_n hC dX5_take_113 0 rfl gRef_r 114 rfl ?_
            refine g_get (v := .int (F221 2)) hC cI4 hU220.1 2 (Nat.le_of_ble_eq_true rfl) q238 rfl dX5_take_114 117 rfl ?_
            refine g_topi (y := s1 2) (by rw [eF222, pk_un (by omega)]) ?_
            refine g_bipush hC dX5_take_117 kb_19 119 rfl ?_
            refine g_icmp_ge hC dX5_take_119 137 rfl 122 rfl (fun c_240 => ?_) (fun c_240 => ?_)
            · refine g_aload_n hC dX5_take_137 0 rfl gRef_r 138 rfl ?_
              refine g_get (v := .int (F221 2)) hC cI4 hU220.1 2 (Nat.le_of_ble_eq_true rfl) q238 rfl dX5_take_138 141 rfl ?_
              refine g_topi (y := s1 2) (by rw [eF222, pk_un (by omega)]) ?_
              refine g_bipush hC dX5_take_141 kb_19 143 rfl ?_
              refine g_icmp_lt hC dX5_take_143 169 rfl 146 rfl (fun c_241 => ?_) (fun c_241 => ?_)
              · exact absurd c_241 c_1
              · refine g_aload_n hC dX5_take_146 0 rfl gRef_r 147 rfl ?_
                refine g_get (v := .int (F221 2)) hC cI4 hU220.1 2 (Nat.le_of_ble_eq_true rfl) q238 rfl dX5_take_147 150 rfl ?_
                refine g_topi (y := s1 2) (by rw [eF222, pk_un (by omega)]) ?_
                refine g_aload_n hC dX5_take_150 0 rfl gRef_r 151 rfl ?_
                refine g_calliP (g_V (As := []) (rest := [.int (s1 2)]) hC mvX5_bare q1844 (gOf.of hC.K cI4 hU220.1) (met_Sg_bare l G M219 sa ts F221 hU220.1) ⟨rfl, rfl⟩ ⟨(Nat.le_of_ble_eq_true rfl), (Nat.le_of_ble_eq_true rfl)⟩ rfl (Nat.le_of_ble_eq_true rfl) dX5_take_151 rfl ⟨(Nat.le_of_ble_eq_true rfl), (Nat.le_of_ble_eq_true rfl)⟩) 154 rfl 0 (Nat.le_of_ble_eq_true rfl) ?_
                refine g_icmp_ge hC dX5_take_154 169 rfl 157 rfl (fun c_242 => ?_) (fun c_242 => ?_)
                · refine g_aload_n hC dX5_take_169 0 rfl gRef_r 170 rfl ?_
                  refine g_dup hC dX5_take_170 rfl 171 rfl ?_
                  refine g_get (v := .int (F221 2)) hC cI4 hU220.1 2 (Nat.le_of_ble_eq_true rfl) q238 rfl dX5_take_171 174 rfl ?_
                  refine g_topi (y := s1 2) (by rw [eF222, pk_un (by omega)]) ?_
                  refine g_iconst hC dX5_take_174 ki_1 175 rfl ?_
                  refine g_iadd hC dX5_take_175 176 rfl ?_
                  obtain ⟨F245, eF246⟩ : ∃ z9, z9 = upd F221 2 ((s1 2) + 1) := ⟨_, rfl⟩
                  refine g_put hC cI4 hU220.1 2 (Nat.le_of_ble_eq_true rfl) q238 rfl rfl rfl (Nat.le_of_ble_eq_true rfl) dX5_take_176 (fs' := smL G  F245) (by rw [eF246]; exact smL_s2) 179 rfl (fun M243 hU244 => ?_)
                  exact g_vret hC (fun k9 hk9 => ⟨(by first | (rw [hU244.1]; have hT1 : smT1 s1 lev = F221 := (by simp only [smT1, eq_false c_1, eq_true (Int32.not_lt.mp c_1), eq_false c_92, eq_true (Int32.not_le.mp c_92), eq_true c_223, eq_false (Int32.not_lt.mpr c_223), eq_false c_224, eq_false c_225, eq_true (Int32.not_lt.mp c_225), eq_true c_240, eq_false (Int32.not_lt.mpr c_240), eq_false c_241, eq_true (Int32.not_lt.mp c_241), eq_true c_242, eq_false (Int32.not_lt.mpr c_242), if_true, if_false, true_and, and_true, false_and, and_false, true_or, or_true, false_or, or_false, not_true_eq_false, not_false_eq_true, reduceIte, decide_true, decide_false, Bool.false_eq_true]; exact eF222.symm); simp only [smTake, hT1, smT2, eq_false c_1, eq_true (Int32.not_lt.mp c_1), eq_false c_92, eq_true (Int32.not_le.mp c_92), eq_true c_223, eq_false (Int32.not_lt.mpr c_223), eq_false c_224, eq_false c_225, eq_true (Int32.not_lt.mp c_225), eq_true c_240, eq_false (Int32.not_lt.mpr c_240), eq_false c_241, eq_true (Int32.not_lt.mp c_241), eq_true c_242, eq_false (Int32.not_lt.mpr c_242), if_true, if_false, true_and, and_true, false_and, and_false, true_or, or_true, false_or, or_false, not_true_eq_false, not_false_eq_true, reduceIte, decide_true, decide_false, Bool.false_eq_true, ← eF222, ← eF246]; done) | (exfalso; simp only [Int32.lt_iff_toInt_lt, Int32.le_iff_toInt_le, ← Int32.toInt_inj, (show Int32.toInt 0 = 0 from rfl), (show Int32.toInt 1 = 1 from rfl), (show Int32.toInt 2 = 2 from rfl), (show Int32.toInt 3 = 3 from rfl), (show Int32.toInt 4 = 4 from rfl), (show Int32.toInt 5 = 5 from rfl), (show Int32.toInt 6 = 6 from rfl), (show Int32.toInt 7 = 7 from rfl), (show Int32.toInt 8 = 8 from rfl), (show Int32.toInt 9 = 9 from rfl), (show Int32.toInt 11 = 11 from rfl), (show Int32.toInt 12 = 12 from rfl), (show Int32.toInt 13 = 13 from rfl), (show Int32.toInt 15 = 15 from rfl), (show Int32.toInt 18 = 18 from rfl), (show Int32.toInt 19 = 19 from rfl)] at c_1 c_92 c_223 c_224 c_225 c_240 c_241 c_242; omega)), ((gFr.refl.up hU220 hM_0 (by simp)).up hU244 hU220.1 (by simp)), (by first | exact Nat.le_zero.mp hk9 | omega)⟩) dX5_take_179 (Nat.le_of_ble_eq_true rfl) (Nat.le_of_ble_eq_true rfl)
                · refine g_aload_n hC dX5_take_157 0 rfl gRef_r 158 rfl ?_
                  refine g_aload_n hC dX5_take_158 0 rfl gRef_r 159 rfl ?_
                  refine g_get (v := .int (F221 6)) hC cI4 hU220.1 6 (Nat.le_of_ble_eq_true rfl) q246 rfl dX5_take_159 162 rfl ?_
                  refine g_topi (y := s1 6) (by rw [eF222, pk_un (by omega)]) ?_
                  refine g_iconst hC dX5_take_162 ki_1 163 rfl ?_
                  refine g_ishl hC dX5_take_163 164 rfl ?_
                  refine g_iload_n hC dX5_take_164 1 rfl 165 rfl ?_
                  refine g_ior hC dX5_take_165 166 rfl ?_
                  obtain ⟨F249, eF250⟩ : ∃ z9, z9 = upd F221 6 (((s1 6) <<< (1 &&& 31)) ||| lev) := ⟨_, rfl⟩
                  refine g_put hC cI4 hU220.1 6 (Nat.le_of_ble_eq_true rfl) q246 rfl rfl rfl (Nat.le_of_ble_eq_true rfl) dX5_take_166 (fs' := smL G  F249) (by rw [eF250]; exact smL_s6) 169 rfl (fun M247 hU248 => ?_)
                  refine g_aload_n hC dX5_take_169 0 rfl gRef_r 170 rfl ?_
                  refine g_dup hC dX5_take_170 rfl 171 rfl ?_
                  refine g_get (v := .int (F249 2)) hC cI4 hU248.1 2 (Nat.le_of_ble_eq_true rfl) q238 rfl dX5_take_171 174 rfl ?_
                  refine g_topi (y := s1 2) (by rw [eF250, pk_un (by omega), eF222, pk_un (by omega)]) ?_
                  refine g_iconst hC dX5_take_174 ki_1 175 rfl ?_
                  refine g_iadd hC dX5_take_175 176 rfl ?_
                  obtain ⟨F253, eF254⟩ : ∃ z9, z9 = upd F249 2 ((s1 2) + 1) := ⟨_, rfl⟩
                  refine g_put hC cI4 hU248.1 2 (Nat.le_of_ble_eq_true rfl) q238 rfl rfl rfl (Nat.le_of_ble_eq_true rfl) dX5_take_176 (fs' := smL G  F253) (by rw [eF254]; exact smL_s2) 179 rfl (fun M251 hU252 => ?_)
                  exact g_vret hC (fun k9 hk9 => ⟨(by first | (rw [hU252.1]; have hT1 : smT1 s1 lev = F221 := (by simp only [smT1, eq_false c_1, eq_true (Int32.not_lt.mp c_1), eq_false c_92, eq_true (Int32.not_le.mp c_92), eq_true c_223, eq_false (Int32.not_lt.mpr c_223), eq_false c_224, eq_false c_225, eq_true (Int32.not_lt.mp c_225), eq_true c_240, eq_false (Int32.not_lt.mpr c_240), eq_false c_241, eq_true (Int32.not_lt.mp c_241), eq_false c_242, eq_true (Int32.not_le.mp c_242), if_true, if_false, true_and, and_true, false_and, and_false, true_or, or_true, false_or, or_false, not_true_eq_false, not_false_eq_true, reduceIte, decide_true, decide_false, Bool.false_eq_true]; exact eF222.symm); simp only [smTake, hT1, smT2, eq_false c_1, eq_true (Int32.not_lt.mp c_1), eq_false c_92, eq_true (Int32.not_le.mp c_92), eq_true c_223, eq_false (Int32.not_lt.mpr c_223), eq_false c_224, eq_false c_225, eq_true (Int32.not_lt.mp c_225), eq_true c_240, eq_false (Int32.not_lt.mpr c_240), eq_false c_241, eq_true (Int32.not_lt.mp c_241), eq_false c_242, eq_true (Int32.not_le.mp c_242), if_true, if_false, true_and, and_true, false_and, and_false, true_or, or_true, false_or, or_false, not_true_eq_false, not_false_eq_true, reduceIte, decide_true, decide_false, Bool.false_eq_true, ← eF222, ← eF250, ← eF254]; done) | (exfalso; simp only [Int32.lt_iff_toInt_lt, Int32.le_iff_toInt_le, ← Int32.toInt_inj, (show Int32.toInt 0 = 0 from rfl), (show Int32.toInt 1 = 1 from rfl), (show Int32.toInt 2 = 2 from rfl), (show Int32.toInt 3 = 3 from rfl), (show Int32.toInt 4 = 4 from rfl), (show Int32.toInt 5 = 5 from rfl), (show Int32.toInt 6 = 6 from rfl), (show Int32.toInt 7 = 7 from rfl), (show Int32.toInt 8 = 8 from rfl), (show Int32.toInt 9 = 9 from rfl), (show Int32.toInt 11 = 11 from rfl), (show Int32.toInt 12 = 12 from rfl), (show Int32.toInt 13 = 13 from rfl), (show Int32.toInt 15 = 15 from rfl), (show Int32.toInt 18 = 18 from rfl), (show Int32.toInt 19 = 19 from rfl)] at c_1 c_92 c_223 c_224 c_225 c_240 c_241 c_242; omega)), (((gFr.refl.up hU220 hM_0 (by simp)).up hU248 hU220.1 (by simp)).up hU252 hU248.1 (by simp)), (by first | exact Nat.le_zero.mp hk9 | omega)⟩) dX5_take_179 (Nat.le_of_ble_eq_true rfl) (Nat.le_of_ble_eq_true rfl)
            · refine g_aload_n hC dX5_take_122 0 rfl gRef_r 123 rfl ?_
              refine g_aload_n hC dX5_take_123 0 rfl gRef_r 124 rfl ?_
              refine g_get (v := .int (F221 5)) hC cI4 hU220.1 5 (Nat.le_of_ble_eq_true rfl) q244 rfl dX5_take_124 127 rfl ?_
              refine g_topi (y := s1 5) (by rw [eF222, pk_un (by omega)]) ?_
              refine g_iconst hC dX5_take_127 ki_1 128 rfl ?_
              refine g_ishl hC dX5_take_128 129 rfl ?_
              refine g_iload_n hC dX5_take_129 1 rfl 130 rfl ?_
              refine g_ior hC dX5_take_130 131 rfl ?_
              obtain ⟨F257, eF258⟩ : ∃ z9, z9 = upd F221 5 (((s1 5) <<< (1 &&& 31)) ||| lev) := ⟨_, rfl⟩
              refine g_put hC cI4 hU220.1 5 (Nat.le_of_ble_eq_true rfl) q244 rfl rfl rfl (Nat.le_of_ble_eq_true rfl) dX5_take_131 (fs' := smL G  F257) (by rw [eF258]; exact smL_s5) 134 rfl (fun M255 hU256 => ?_)
              refine g_goto hC dX5_take_134 169 rfl ?_
              refine g_aload_n hC dX5_take_169 0 rfl gRef_r 170 rfl ?_
              refine g_dup hC dX5_take_170 rfl 171 rfl ?_
              refine g_get (v := .int (F257 2)) hC cI4 hU256.1 2 (Nat.le_of_ble_eq_true rfl) q238 rfl dX5_take_171 174 rfl ?_
              refine g_topi (y := s1 2) (by rw [eF258, pk_un (by omega), eF222, pk_un (by omega)]) ?_
              refine g_iconst hC dX5_take_174 ki_1 175 rfl ?_
              refine g_iadd hC dX5_take_175 176 rfl ?_
              obtain ⟨F261, eF262⟩ : ∃ z9, z9 = upd F257 2 ((s1 2) + 1) := ⟨_, rfl⟩
              refine g_put hC cI4 hU256.1 2 (Nat.le_of_ble_eq_true rfl) q238 rfl rfl rfl (Nat.le_of_ble_eq_true rfl) dX5_take_176 (fs' := smL G  F261) (by rw [eF262]; exact smL_s2) 179 rfl (fun M259 hU260 => ?_)
              exact g_vret hC (fun k9 hk9 => ⟨(by first | (rw [hU260.1]; have hT1 : smT1 s1 lev = F221 := (by simp only [smT1, eq_false c_1, eq_true (Int32.not_lt.mp c_1), eq_false c_92, eq_true (Int32.not_le.mp c_92), eq_true c_223, eq_false (Int32.not_lt.mpr c_223), eq_false c_224, eq_false c_225, eq_true (Int32.not_lt.mp c_225), eq_false c_240, eq_true (Int32.not_le.mp c_240), if_true, if_false, true_and, and_true, false_and, and_false, true_or, or_true, false_or, or_false, not_true_eq_false, not_false_eq_true, reduceIte, decide_true, decide_false, Bool.false_eq_true]; exact eF222.symm); simp only [smTake, hT1, smT2, eq_false c_1, eq_true (Int32.not_lt.mp c_1), eq_false c_92, eq_true (Int32.not_le.mp c_92), eq_true c_223, eq_false (Int32.not_lt.mpr c_223), eq_false c_224, eq_false c_225, eq_true (Int32.not_lt.mp c_225), eq_false c_240, eq_true (Int32.not_le.mp c_240), if_true, if_false, true_and, and_true, false_and, and_false, true_or, or_true, false_or, or_false, not_true_eq_false, not_false_eq_true, reduceIte, decide_true, decide_false, Bool.false_eq_true, ← eF222, ← eF258, ← eF262]; done) | (exfalso; simp only [Int32.lt_iff_toInt_lt, Int32.le_iff_toInt_le, ← Int32.toInt_inj, (show Int32.toInt 0 = 0 from rfl), (show Int32.toInt 1 = 1 from rfl), (show Int32.toInt 2 = 2 from rfl), (show Int32.toInt 3 = 3 from rfl), (show Int32.toInt 4 = 4 from rfl), (show Int32.toInt 5 = 5 from rfl), (show Int32.toInt 6 = 6 from rfl), (show Int32.toInt 7 = 7 from rfl), (show Int32.toInt 8 = 8 from rfl), (show Int32.toInt 9 = 9 from rfl), (show Int32.toInt 11 = 11 from rfl), (show Int32.toInt 12 = 12 from rfl), (show Int32.toInt 13 = 13 from rfl), (show Int32.toInt 15 = 15 from rfl), (show Int32.toInt 18 = 18 from rfl), (show Int32.toInt 19 = 19 from rfl)] at c_1 c_92 c_223 c_224 c_225 c_240; omega)), (((gFr.refl.up hU220 hM_0 (by simp)).up hU256 hU220.1 (by simp)).up hU260 hU256.1 (by simp)), (by first | exact Nat.le_zero.mp hk9 | omega)⟩) dX5_take_179 (Nat.le_of_ble_eq_true rfl) (Nat.le_of_ble_eq_true rfl)
        · refine g_aload_n hC dX5_take_87 0 rfl gRef_r 88 rfl ?_
          refine g_iload_n hC dX5_take_88 1 rfl 89 rfl ?_
          refine g_iconst hC dX5_take_89 ki_1 90 rfl ?_
          refine g_icmp_ne hC dX5_take_90 97 rfl 93 rfl (fun c_263 => ?_) (fun c_263 => ?_)
          · refine g_iconst hC dX5_take_97 ki_0 98 rfl ?_
            obtain ⟨F266, eF267⟩ : ∃ z9, z9 = upd F221 4 0 := ⟨_, rfl⟩
            refine g_put hC cI4 hU220.1 4 (Nat.le_of_ble_eq_true rfl) q242 rfl (by decide) rfl (Nat.le_of_ble_eq_true rfl) dX5_take_98 (fs' := smL G  F266) (by rw [eF267]; exact smL_s4) 101 rfl (fun M264 hU265 => ?_)
            refine g_goto hC dX5_take_101 169 rfl ?_
            refine g_aload_n hC dX5_take_169 0 rfl gRef_r 170 rfl ?_
            refine g_dup hC dX5_take_170 rfl 171 rfl ?_
            refine g_get (v := .int (F266 2)) hC cI4 hU265.1 2 (Nat.le_of_ble_eq_true rfl) q238 rfl dX5_take_171 174 rfl ?_
            refine g_topi (y := s1 2) (by rw [eF267, pk_un (by omega), eF222, pk_un (by omega)]) ?_
            refine g_iconst hC dX5_take_174 ki_1 175 rfl ?_
            refine g_iadd hC dX5_take_175 176 rfl ?_
            obtain ⟨F270, eF271⟩ : ∃ z9, z9 = upd F266 2 ((s1 2) + 1) := ⟨_, rfl⟩
            refine g_put hC cI4 hU265.1 2 (Nat.le_of_ble_eq_true rfl) q238 rfl rfl rfl (Nat.le_of_ble_eq_true rfl) dX5_take_176 (fs' := smL G  F270) (by rw [eF271]; exact smL_s2) 179 rfl (fun M268 hU269 => ?_)
            exact g_vret hC (fun k9 hk9 => ⟨(by first | (rw [hU269.1]; have hT1 : smT1 s1 lev = F221 := (by simp only [smT1, eq_false c_1, eq_true (Int32.not_lt.mp c_1), eq_false c_92, eq_true (Int32.not_le.mp c_92), eq_true c_223, eq_false (Int32.not_lt.mpr c_223), eq_true c_224, eq_false c_263, if_true, if_false, true_and, and_true, false_and, and_false, true_or, or_true, false_or, or_false, not_true_eq_false, not_false_eq_true, reduceIte, decide_true, decide_false, Bool.false_eq_true]; exact eF222.symm); simp only [smTake, hT1, smT2, eq_false c_1, eq_true (Int32.not_lt.mp c_1), eq_false c_92, eq_true (Int32.not_le.mp c_92), eq_true c_223, eq_false (Int32.not_lt.mpr c_223), eq_true c_224, eq_false c_263, if_true, if_false, true_and, and_true, false_and, and_false, true_or, or_true, false_or, or_false, not_true_eq_false, not_false_eq_true, reduceIte, decide_true, decide_false, Bool.false_eq_true, ← eF222, ← eF267, ← eF271]; done) | (exfalso; simp only [Int32.lt_iff_toInt_lt, Int32.le_iff_toInt_le, ← Int32.toInt_inj, (show Int32.toInt 0 = 0 from rfl), (show Int32.toInt 1 = 1 from rfl), (show Int32.toInt 2 = 2 from rfl), (show Int32.toInt 3 = 3 from rfl), (show Int32.toInt 4 = 4 from rfl), (show Int32.toInt 5 = 5 from rfl), (show Int32.toInt 6 = 6 from rfl), (show Int32.toInt 7 = 7 from rfl), (show Int32.toInt 8 = 8 from rfl), (show Int32.toInt 9 = 9 from rfl), (show Int32.toInt 11 = 11 from rfl), (show Int32.toInt 12 = 12 from rfl), (show Int32.toInt 13 = 13 from rfl), (show Int32.toInt 15 = 15 from rfl), (show Int32.toInt 18 = 18 from rfl), (show Int32.toInt 19 = 19 from rfl)] at c_1 c_92 c_223 c_224 c_263; omega)), (((gFr.refl.up hU220 hM_0 (by simp)).up hU265 hU220.1 (by simp)).up hU269 hU265.1 (by simp)), (by first | exact Nat.le_zero.mp hk9 | omega)⟩) dX5_take_179 (Nat.le_of_ble_eq_true rfl) (Nat.le_of_ble_eq_true rfl)
          · refine g_iconst hC dX5_take_93 ki_1 94 rfl ?_
            refine g_goto hC dX5_take_94 98 rfl ?_
            obtain ⟨F274, eF275⟩ : ∃ z9, z9 = upd F221 4 1 := ⟨_, rfl⟩
            refine g_put hC cI4 hU220.1 4 (Nat.le_of_ble_eq_true rfl) q242 rfl (by decide) rfl (Nat.le_of_ble_eq_true rfl) dX5_take_98 (fs' := smL G  F274) (by rw [eF275]; exact smL_s4) 101 rfl (fun M272 hU273 => ?_)
            refine g_goto hC dX5_take_101 169 rfl ?_
            refine g_aload_n hC dX5_take_169 0 rfl gRef_r 170 rfl ?_
            refine g_dup hC dX5_take_170 rfl 171 rfl ?_
            refine g_get (v := .int (F274 2)) hC cI4 hU273.1 2 (Nat.le_of_ble_eq_true rfl) q238 rfl dX5_take_171 174 rfl ?_
            refine g_topi (y := s1 2) (by rw [eF275, pk_un (by omega), eF222, pk_un (by omega)]) ?_
            refine g_iconst hC dX5_take_174 ki_1 175 rfl ?_
            refine g_iadd hC dX5_take_175 176 rfl ?_
            obtain ⟨F278, eF279⟩ : ∃ z9, z9 = upd F274 2 ((s1 2) + 1) := ⟨_, rfl⟩
            refine g_put hC cI4 hU273.1 2 (Nat.le_of_ble_eq_true rfl) q238 rfl rfl rfl (Nat.le_of_ble_eq_true rfl) dX5_take_176 (fs' := smL G  F278) (by rw [eF279]; exact smL_s2) 179 rfl (fun M276 hU277 => ?_)
            exact g_vret hC (fun k9 hk9 => ⟨(by first | (rw [hU277.1]; have hT1 : smT1 s1 lev = F221 := (by simp only [smT1, eq_false c_1, eq_true (Int32.not_lt.mp c_1), eq_false c_92, eq_true (Int32.not_le.mp c_92), eq_true c_223, eq_false (Int32.not_lt.mpr c_223), eq_true c_224, eq_true c_263, if_true, if_false, true_and, and_true, false_and, and_false, true_or, or_true, false_or, or_false, not_true_eq_false, not_false_eq_true, reduceIte, decide_true, decide_false, Bool.false_eq_true]; exact eF222.symm); simp only [smTake, hT1, smT2, eq_false c_1, eq_true (Int32.not_lt.mp c_1), eq_false c_92, eq_true (Int32.not_le.mp c_92), eq_true c_223, eq_false (Int32.not_lt.mpr c_223), eq_true c_224, eq_true c_263, if_true, if_false, true_and, and_true, false_and, and_false, true_or, or_true, false_or, or_false, not_true_eq_false, not_false_eq_true, reduceIte, decide_true, decide_false, Bool.false_eq_true, ← eF222, ← eF275, ← eF279]; done) | (exfalso; simp only [Int32.lt_iff_toInt_lt, Int32.le_iff_toInt_le, ← Int32.toInt_inj, (show Int32.toInt 0 = 0 from rfl), (show Int32.toInt 1 = 1 from rfl), (show Int32.toInt 2 = 2 from rfl), (show Int32.toInt 3 = 3 from rfl), (show Int32.toInt 4 = 4 from rfl), (show Int32.toInt 5 = 5 from rfl), (show Int32.toInt 6 = 6 from rfl), (show Int32.toInt 7 = 7 from rfl), (show Int32.toInt 8 = 8 from rfl), (show Int32.toInt 9 = 9 from rfl), (show Int32.toInt 11 = 11 from rfl), (show Int32.toInt 12 = 12 from rfl), (show Int32.toInt 13 = 13 from rfl), (show Int32.toInt 15 = 15 from rfl), (show Int32.toInt 18 = 18 from rfl), (show Int32.toInt 19 = 19 from rfl)] at c_1 c_92 c_223 c_224 c_263; omega)), (((gFr.refl.up hU220 hM_0 (by simp)).up hU273 hU220.1 (by simp)).up hU277 hU273.1 (by simp)), (by first | exact Nat.le_zero.mp hk9 | omega)⟩) dX5_take_179 (Nat.le_of_ble_eq_true rfl) (Nat.le_of_ble_eq_true rfl)
      · refine g_aload_n hC dX5_take_54 0 rfl gRef_r 55 rfl ?_
        refine g_get (v := .int (F221 2)) hC cI4 hU220.1 2 (Nat.le_of_ble_eq_true rfl) q238 rfl dX5_take_55 58 rfl ?_
        refine g_topi (y := s1 2) (by rw [eF222, pk_un (by omega)]) ?_
        refine g_bipush hC dX5_take_58 kb_12 60 rfl ?_
        refine g_icmp_ge hC dX5_take_60 78 rfl 63 rfl (fun c_280 => ?_) (fun c_280 => ?_)
        · refine g_aload_n hC dX5_take_78 0 rfl gRef_r 79 rfl ?_
          refine g_get (v := .int (F221 2)) hC cI4 hU220.1 2 (Nat.le_of_ble_eq_true rfl) q238 rfl dX5_take_79 82 rfl ?_
          refine g_topi (y := s1 2) (by rw [eF222, pk_un (by omega)]) ?_
          refine g_bipush hC dX5_take_82 kb_12 84 rfl ?_
          refine g_icmp_ne hC dX5_take_84 104 rfl 87 rfl (fun c_281 => ?_) (fun c_281 => ?_)
          · refine g_aload_n hC dX5_take_104 0 rfl gRef_r 105 rfl ?_
            refine g_get (v := .int (F221 2)) hC cI4 hU220.1 2 (Nat.le_of_ble_eq_true rfl) q238 rfl dX5_take_105 108 rfl ?_
            refine g_topi (y := s1 2) (by rw [eF222, pk_un (by omega)]) ?_
            refine g_bipush hC dX5_take_108 kb_15 110 rfl ?_
            refine g_icmp_lt hC dX5_take_110 137 rfl 113 rfl (fun c_282 => ?_) (fun c_282 => ?_)
            · refine g_aload_n hC dX5_take_137 0 rfl gRef_r 138 rfl ?_
              refine g_get (v := .int (F221 2)) hC cI4 hU220.1 2 (Nat.le_of_ble_eq_true rfl) q238 rfl dX5_take_138 141 rfl ?_
              refine g_topi (y := s1 2) (by rw [eF222, pk_un (by omega)]) ?_
              refine g_bipush hC dX5_take_141 kb_19 143 rfl ?_
              refine g_icmp_lt hC dX5_take_143 169 rfl 146 rfl (fun c_283 => ?_) (fun c_283 => ?_)
              · exact absurd c_283 c_1
              · refine g_aload_n hC dX5_take_146 0 rfl gRef_r 147 rfl ?_
                refine g_get (v := .int (F221 2)) hC cI4 hU220.1 2 (Nat.le_of_ble_eq_true rfl) q238 rfl dX5_take_147 150 rfl ?_
                refine g_topi (y := s1 2) (by rw [eF222, pk_un (by omega)]) ?_
                refine g_aload_n hC dX5_take_150 0 rfl gRef_r 151 rfl ?_
                refine g_calliP (g_V (As := []) (rest := [.int (s1 2)]) hC mvX5_bare q1844 (gOf.of hC.K cI4 hU220.1) (met_Sg_bare l G M219 sa ts F221 hU220.1) ⟨rfl, rfl⟩ ⟨(Nat.le_of_ble_eq_true rfl), (Nat.le_of_ble_eq_true rfl)⟩ rfl (Nat.le_of_ble_eq_true rfl) dX5_take_151 rfl ⟨(Nat.le_of_ble_eq_true rfl), (Nat.le_of_ble_eq_true rfl)⟩) 154 rfl 0 (Nat.le_of_ble_eq_true rfl) ?_
                refine g_icmp_ge hC dX5_take_154 169 rfl 157 rfl (fun c_284 => ?_) (fun c_284 => ?_)
                · refine g_aload_n hC dX5_take_169 0 rfl gRef_r 170 rfl ?_
                  refine g_dup hC dX5_take_170 rfl 171 rfl ?_
                  refine g_get (v := .int (F221 2)) hC cI4 hU220.1 2 (Nat.le_of_ble_eq_true rfl) q238 rfl dX5_take_171 174 rfl ?_
                  refine g_topi (y := s1 2) (by rw [eF222, pk_un (by omega)]) ?_
                  refine g_iconst hC dX5_take_174 ki_1 175 rfl ?_
                  refine g_iadd hC dX5_take_175 176 rfl ?_
                  obtain ⟨F287, eF288⟩ : ∃ z9, z9 = upd F221 2 ((s1 2) + 1) := ⟨_, rfl⟩
                  refine g_put hC cI4 hU220.1 2 (Nat.le_of_ble_eq_true rfl) q238 rfl rfl rfl (Nat.le_of_ble_eq_true rfl) dX5_take_176 (fs' := smL G  F287) (by rw [eF288]; exact smL_s2) 179 rfl (fun M285 hU286 => ?_)
                  exact g_vret hC (fun k9 hk9 => ⟨(by first | (rw [hU286.1]; have hT1 : smT1 s1 lev = F221 := (by simp only [smT1, eq_false c_1, eq_true (Int32.not_lt.mp c_1), eq_false c_92, eq_true (Int32.not_le.mp c_92), eq_false c_223, eq_true (Int32.not_le.mp c_223), eq_true c_280, eq_false (Int32.not_lt.mpr c_280), eq_false c_281, eq_true c_282, eq_false (Int32.not_le.mpr c_282), eq_false c_283, eq_true (Int32.not_lt.mp c_283), eq_true c_284, eq_false (Int32.not_lt.mpr c_284), if_true, if_false, true_and, and_true, false_and, and_false, true_or, or_true, false_or, or_false, not_true_eq_false, not_false_eq_true, reduceIte, decide_true, decide_false, Bool.false_eq_true]; exact eF222.symm); simp only [smTake, hT1, smT2, eq_false c_1, eq_true (Int32.not_lt.mp c_1), eq_false c_92, eq_true (Int32.not_le.mp c_92), eq_false c_223, eq_true (Int32.not_le.mp c_223), eq_true c_280, eq_false (Int32.not_lt.mpr c_280), eq_false c_281, eq_true c_282, eq_false (Int32.not_le.mpr c_282), eq_false c_283, eq_true (Int32.not_lt.mp c_283), eq_true c_284, eq_false (Int32.not_lt.mpr c_284), if_true, if_false, true_and, and_true, false_and, and_false, true_or, or_true, false_or, or_false, not_true_eq_false, not_false_eq_true, reduceIte, decide_true, decide_false, Bool.false_eq_true, ← eF222, ← eF288]; done) | (exfalso; simp only [Int32.lt_iff_toInt_lt, Int32.le_iff_toInt_le, ← Int32.toInt_inj, (show Int32.toInt 0 = 0 from rfl), (show Int32.toInt 1 = 1 from rfl), (show Int32.toInt 2 = 2 from rfl), (show Int32.toInt 3 = 3 from rfl), (show Int32.toInt 4 = 4 from rfl), (show Int32.toInt 5 = 5 from rfl), (show Int32.toInt 6 = 6 from rfl), (show Int32.toInt 7 = 7 from rfl), (show Int32.toInt 8 = 8 from rfl), (show Int32.toInt 9 = 9 from rfl), (show Int32.toInt 11 = 11 from rfl), (show Int32.toInt 12 = 12 from rfl), (show Int32.toInt 13 = 13 from rfl), (show Int32.toInt 15 = 15 from rfl), (show Int32.toInt 18 = 18 from rfl), (show Int32.toInt 19 = 19 from rfl)] at c_1 c_92 c_223 c_280 c_281 c_282 c_283 c_284; omega)), ((gFr.refl.up hU220 hM_0 (by simp)).up hU286 hU220.1 (by simp)), (by first | exact Nat.le_zero.mp hk9 | omega)⟩) dX5_take_179 (Nat.le_of_ble_eq_true rfl) (Nat.le_of_ble_eq_true rfl)
                · refine g_aload_n hC dX5_take_157 0 rfl gRef_r 158 rfl ?_
                  refine g_aload_n hC dX5_take_158 0 rfl gRef_r 159 rfl ?_
                  refine g_get (v := .int (F221 6)) hC cI4 hU220.1 6 (Nat.le_of_ble_eq_true rfl) q246 rfl dX5_take_159 162 rfl ?_
                  refine g_topi (y := s1 6) (by rw [eF222, pk_un (by omega)]) ?_
                  refine g_iconst hC dX5_take_162 ki_1 163 rfl ?_
                  refine g_ishl hC dX5_take_163 164 rfl ?_
                  refine g_iload_n hC dX5_take_164 1 rfl 165 rfl ?_
                  refine g_ior hC dX5_take_165 166 rfl ?_
                  obtain ⟨F291, eF292⟩ : ∃ z9, z9 = upd F221 6 (((s1 6) <<< (1 &&& 31)) ||| lev) := ⟨_, rfl⟩
                  refine g_put hC cI4 hU220.1 6 (Nat.le_of_ble_eq_true rfl) q246 rfl rfl rfl (Nat.le_of_ble_eq_true rfl) dX5_take_166 (fs' := smL G  F291) (by rw [eF292]; exact smL_s6) 169 rfl (fun M289 hU290 => ?_)
                  refine g_aload_n hC dX5_take_169 0 rfl gRef_r 170 rfl ?_
                  refine g_dup hC dX5_take_170 rfl 171 rfl ?_
                  refine g_get (v := .int (F291 2)) hC cI4 hU290.1 2 (Nat.le_of_ble_eq_true rfl) q238 rfl dX5_take_171 174 rfl ?_
                  refine g_topi (y := s1 2) (by rw [eF292, pk_un (by omega), eF222, pk_un (by omega)]) ?_
                  refine g_iconst hC dX5_take_174 ki_1 175 rfl ?_
                  refine g_iadd hC dX5_take_175 176 rfl ?_
                  obtain ⟨F295, eF296⟩ : ∃ z9, z9 = upd F291 2 ((s1 2) + 1) := ⟨_, rfl⟩
                  refine g_put hC cI4 hU290.1 2 (Nat.le_of_ble_eq_true rfl) q238 rfl rfl rfl (Nat.le_of_ble_eq_true rfl) dX5_take_176 (fs' := smL G  F295) (by rw [eF296]; exact smL_s2) 179 rfl (fun M293 hU294 => ?_)
                  exact g_vret hC (fun k9 hk9 => ⟨(by first | (rw [hU294.1]; have hT1 : smT1 s1 lev = F221 := (by simp only [smT1, eq_false c_1, eq_true (Int32.not_lt.mp c_1), eq_false c_92, eq_true (Int32.not_le.mp c_92), eq_false c_223, eq_true (Int32.not_le.mp c_223), eq_true c_280, eq_false (Int32.not_lt.mpr c_280), eq_false c_281, eq_true c_282, eq_false (Int32.not_le.mpr c_282), eq_false c_283, eq_true (Int32.not_lt.mp c_283), eq_false c_284, eq_true (Int32.not_le.mp c_284), if_true, if_false, true_and, and_true, false_and, and_false, true_or, or_true, false_or, or_false, not_true_eq_false, not_false_eq_true, reduceIte, decide_true, decide_false, Bool.false_eq_true]; exact eF222.symm); simp only [smTake, hT1, smT2, eq_false c_1, eq_true (Int32.not_lt.mp c_1), eq_false c_92, eq_true (Int32.not_le.mp c_92), eq_false c_223, eq_true (Int32.not_le.mp c_223), eq_true c_280, eq_false (Int32.not_lt.mpr c_280), eq_false c_281, eq_true c_282, eq_false (Int32.not_le.mpr c_282), eq_false c_283, eq_true (Int32.not_lt.mp c_283), eq_false c_284, eq_true (Int32.not_le.mp c_284), if_true, if_false, true_and, and_true, false_and, and_false, true_or, or_true, false_or, or_false, not_true_eq_false, not_false_eq_true, reduceIte, decide_true, decide_false, Bool.false_eq_true, ← eF222, ← eF292, ← eF296]; done) | (exfalso; simp only [Int32.lt_iff_toInt_lt, Int32.le_iff_toInt_le, ← Int32.toInt_inj, (show Int32.toInt 0 = 0 from rfl), (show Int32.toInt 1 = 1 from rfl), (show Int32.toInt 2 = 2 from rfl), (show Int32.toInt 3 = 3 from rfl), (show Int32.toInt 4 = 4 from rfl), (show Int32.toInt 5 = 5 from rfl), (show Int32.toInt 6 = 6 from rfl), (show Int32.toInt 7 = 7 from rfl), (show Int32.toInt 8 = 8 from rfl), (show Int32.toInt 9 = 9 from rfl), (show Int32.toInt 11 = 11 from rfl), (show Int32.toInt 12 = 12 from rfl), (show Int32.toInt 13 = 13 from rfl), (show Int32.toInt 15 = 15 from rfl), (show Int32.toInt 18 = 18 from rfl), (show Int32.toInt 19 = 19 from rfl)] at c_1 c_92 c_223 c_280 c_281 c_282 c_283 c_284; omega)), (((gFr.refl.up hU220 hM_0 (by simp)).up hU290 hU220.1 (by simp)).up hU294 hU290.1 (by simp)), (by first | exact Nat.le_zero.mp hk9 | omega)⟩) dX5_take_179 (Nat.le_of_ble_eq_true rfl) (Nat.le_of_ble_eq_true rfl)
            · refine g_aload_n hC dX5_take_113 0 rfl gRef_r 114 rfl ?_
              refine g_get (v := .int (F221 2)) hC cI4 hU220.1 2 (Nat.le_of_ble_eq_true rfl) q238 rfl dX5_take_114 117 rfl ?_
              refine g_topi (y := s1 2) (by rw [eF222, pk_un (by omega)]) ?_
              refine g_bipush hC dX5_take_117 kb_19 119 rfl ?_
              refine g_icmp_ge hC dX5_take_119 137 rfl 122 rfl (fun c_297 => ?_) (fun c_297 => ?_)
              · refine g_aload_n hC dX5_take_137 0 rfl gRef_r 138 rfl ?_
                refine g_get (v := .int (F221 2)) hC cI4 hU220.1 2 (Nat.le_of_ble_eq_true rfl) q238 rfl dX5_take_138 141 rfl ?_
                refine g_topi (y := s1 2) (by rw [eF222, pk_un (by omega)]) ?_
                refine g_bipush hC dX5_take_141 kb_19 143 rfl ?_
                refine g_icmp_lt hC dX5_take_143 169 rfl 146 rfl (fun c_298 => ?_) (fun c_298 => ?_)
                · exact absurd c_298 c_1
                · refine g_aload_n hC dX5_take_146 0 rfl gRef_r 147 rfl ?_
                  refine g_get (v := .int (F221 2)) hC cI4 hU220.1 2 (Nat.le_of_ble_eq_true rfl) q238 rfl dX5_take_147 150 rfl ?_
                  refine g_topi (y := s1 2) (by rw [eF222, pk_un (by omega)]) ?_
                  refine g_aload_n hC dX5_take_150 0 rfl gRef_r 151 rfl ?_
                  refine g_calliP (g_V (As := []) (rest := [.int (s1 2)]) hC mvX5_bare q1844 (gOf.of hC.K cI4 hU220.1) (met_Sg_bare l G M219 sa ts F221 hU220.1) ⟨rfl, rfl⟩ ⟨(Nat.le_of_ble_eq_true rfl), (Nat.le_of_ble_eq_true rfl)⟩ rfl (Nat.le_of_ble_eq_true rfl) dX5_take_151 rfl ⟨(Nat.le_of_ble_eq_true rfl), (Nat.le_of_ble_eq_true rfl)⟩) 154 rfl 0 (Nat.le_of_ble_eq_true rfl) ?_
                  refine g_icmp_ge hC dX5_take_154 169 rfl 157 rfl (fun c_299 => ?_) (fun c_299 => ?_)
                  · refine g_aload_n hC dX5_take_169 0 rfl gRef_r 170 rfl ?_
                    refine g_dup hC dX5_take_170 rfl 171 rfl ?_
                    refine g_get (v := .int (F221 2)) hC cI4 hU220.1 2 (Nat.le_of_ble_eq_true rfl) q238 rfl dX5_take_171 174 rfl ?_
                    refine g_topi (y := s1 2) (by rw [eF222, pk_un (by omega)]) ?_
                    refine g_iconst hC dX5_take_174 ki_1 175 rfl ?_
                    refine g_iadd hC dX5_take_175 176 rfl ?_
                    obtain ⟨F302, eF303⟩ : ∃ z9, z9 = upd F221 2 ((s1 2) + 1) := ⟨_, rfl⟩
                    refine g_put hC cI4 hU220.1 2 (Nat.le_of_ble_eq_true rfl) q238 rfl rfl rfl (Nat.le_of_ble_eq_true rfl) dX5_take_176 (fs' := smL G  F302) (by rw [eF303]; exact smL_s2) 179 rfl (fun M300 hU301 => ?_)
                    exact g_vret hC (fun k9 hk9 => ⟨(by first | (rw [hU301.1]; have hT1 : smT1 s1 lev = F221 := (by simp only [smT1, eq_false c_1, eq_true (Int32.not_lt.mp c_1), eq_false c_92, eq_true (Int32.not_le.mp c_92), eq_false c_223, eq_true (Int32.not_le.mp c_223), eq_true c_280, eq_false (Int32.not_lt.mpr c_280), eq_false c_281, eq_false c_282, eq_true (Int32.not_lt.mp c_282), eq_true c_297, eq_false (Int32.not_lt.mpr c_297), eq_false c_298, eq_true (Int32.not_lt.mp c_298), eq_true c_299, eq_false (Int32.not_lt.mpr c_299), if_true, if_false, true_and, and_true, false_and, and_false, true_or, or_true, false_or, or_false, not_true_eq_false, not_false_eq_true, reduceIte, decide_true, decide_false, Bool.false_eq_true]; exact eF222.symm); simp only [smTake, hT1, smT2, eq_false c_1, eq_true (Int32.not_lt.mp c_1), eq_false c_92, eq_true (Int32.not_le.mp c_92), eq_false c_223, eq_true (Int32.not_le.mp c_223), eq_true c_280, eq_false (Int32.not_lt.mpr c_280), eq_false c_281, eq_false c_282, eq_true (Int32.not_lt.mp c_282), eq_true c_297, eq_false (Int32.not_lt.mpr c_297), eq_false c_298, eq_true (Int32.not_lt.mp c_298), eq_true c_299, eq_false (Int32.not_lt.mpr c_299), if_true, if_false, true_and, and_true, false_and, and_false, true_or, or_true, false_or, or_false, not_true_eq_false, not_false_eq_true, reduceIte, decide_true, decide_false, Bool.false_eq_true, ← eF222, ← eF303]; done) | (exfalso; simp only [Int32.lt_iff_toInt_lt, Int32.le_iff_toInt_le, ← Int32.toInt_inj, (show Int32.toInt 0 = 0 from rfl), (show Int32.toInt 1 = 1 from rfl), (show Int32.toInt 2 = 2 from rfl), (show Int32.toInt 3 = 3 from rfl), (show Int32.toInt 4 = 4 from rfl), (show Int32.toInt 5 = 5 from rfl), (show Int32.toInt 6 = 6 from rfl), (show Int32.toInt 7 = 7 from rfl), (show Int32.toInt 8 = 8 from rfl), (show Int32.toInt 9 = 9 from rfl), (show Int32.toInt 11 = 11 from rfl), (show Int32.toInt 12 = 12 from rfl), (show Int32.toInt 13 = 13 from rfl), (show Int32.toInt 15 = 15 from rfl), (show Int32.toInt 18 = 18 from rfl), (show Int32.toInt 19 = 19 from rfl)] at c_1 c_92 c_223 c_280 c_281 c_282 c_297 c_298 c_299; omega)), ((gFr.refl.up hU220 hM_0 (by simp)).up hU301 hU220.1 (by simp)), (by first | exact Nat.le_zero.mp hk9 | omega)⟩) dX5_take_179 (Nat.le_of_ble_eq_true rfl) (Nat.le_of_ble_eq_true rfl)
                  · refine g_aload_n hC dX5_take_157 0 rfl gRef_r 158 rfl ?_
                    refine g_aload_n hC dX5_take_158 0 rfl gRef_r 159 rfl ?_
                    refine g_get (v := .int (F221 6)) hC cI4 hU220.1 6 (Nat.le_of_ble_eq_true rfl) q246 rfl dX5_take_159 162 rfl ?_
                    refine g_topi (y := s1 6) (by rw [eF222, pk_un (by omega)]) ?_
                    refine g_iconst hC dX5_take_162 ki_1 163 rfl ?_
                    refine g_ishl hC dX5_take_163 164 rfl ?_
                    refine g_iload_n hC dX5_take_164 1 rfl 165 rfl ?_
                    refine g_ior hC dX5_take_165 166 rfl ?_
                    obtain ⟨F306, eF307⟩ : ∃ z9, z9 = upd F221 6 (((s1 6) <<< (1 &&& 31)) ||| lev) := ⟨_, rfl⟩
                    refine g_put hC cI4 hU220.1 6 (Nat.le_of_ble_eq_true rfl) q246 rfl rfl rfl (Nat.le_of_ble_eq_true rfl) dX5_take_166 (fs' := smL G  F306) (by rw [eF307]; exact smL_s6) 169 rfl (fun M304 hU305 => ?_)
                    refine g_aload_n hC dX5_take_169 0 rfl gRef_r 170 rfl ?_
                    refine g_dup hC dX5_take_170 rfl 171 rfl ?_
                    refine g_get (v := .int (F306 2)) hC cI4 hU305.1 2 (Nat.le_of_ble_eq_true rfl) q238 rfl dX5_take_171 174 rfl ?_
                    refine g_topi (y := s1 2) (by rw [eF307, pk_un (by omega), eF222, pk_un (by omega)]) ?_
                    refine g_iconst hC dX5_take_174 ki_1 175 rfl ?_
                    refine g_iadd hC dX5_take_175 176 rfl ?_
                    obtain ⟨F310, eF311⟩ : ∃ z9, z9 = upd F306 2 ((s1 2) + 1) := ⟨_, rfl⟩
                    refine g_put hC cI4 hU305.1 2 (Nat.le_of_ble_eq_true rfl) q238 rfl rfl rfl (Nat.le_of_ble_eq_true rfl) dX5_take_176 (fs' := smL G  F310) (by rw [eF311]; exact smL_s2) 179 rfl (fun M308 hU309 => ?_)
                    exact g_vret hC (fun k9 hk9 => ⟨(by first | (rw [hU309.1]; have hT1 : smT1 s1 lev = F221 := (by simp only [smT1, eq_false c_1, eq_true (Int32.not_lt.mp c_1), eq_false c_92, eq_true (Int32.not_le.mp c_92), eq_false c_223, eq_true (Int32.not_le.mp c_223), eq_true c_280, eq_false (Int32.not_lt.mpr c_280), eq_false c_281, eq_false c_282, eq_true (Int32.not_lt.mp c_282), eq_true c_297, eq_false (Int32.not_lt.mpr c_297), eq_false c_298, eq_true (Int32.not_lt.mp c_298), eq_false c_299, eq_true (Int32.not_le.mp c_299), if_true, if_false, true_and, and_true, false_and, and_false, true_or, or_true, false_or, or_false, not_true_eq_false, not_false_eq_true, reduceIte, decide_true, decide_false, Bool.false_eq_true]; exact eF222.symm); simp only [smTake, hT1, smT2, eq_false c_1, eq_true (Int32.not_lt.mp c_1), eq_false c_92, eq_true (Int32.not_le.mp c_92), eq_false c_223, eq_true (Int32.not_le.mp c_223), eq_true c_280, eq_false (Int32.not_lt.mpr c_280), eq_false c_281, eq_false c_282, eq_true (Int32.not_lt.mp c_282), eq_true c_297, eq_false (Int32.not_lt.mpr c_297), eq_false c_298, eq_true (Int32.not_lt.mp c_298), eq_false c_299, eq_true (Int32.not_le.mp c_299), if_true, if_false, true_and, and_true, false_and, and_false, true_or, or_true, false_or, or_false, not_true_eq_false, not_false_eq_true, reduceIte, decide_true, decide_false, Bool.false_eq_true, ← eF222, ← eF307, ← eF311]; done) | (exfalso; simp only [Int32.lt_iff_toInt_lt, Int32.le_iff_toInt_le, ← Int32.toInt_inj, (show Int32.toInt 0 = 0 from rfl), (show Int32.toInt 1 = 1 from rfl), (show Int32.toInt 2 = 2 from rfl), (show Int32.toInt 3 = 3 from rfl), (show Int32.toInt 4 = 4 from rfl), (show Int32.toInt 5 = 5 from rfl), (show Int32.toInt 6 = 6 from rfl), (show Int32.toInt 7 = 7 from rfl), (show Int32.toInt 8 = 8 from rfl), (show Int32.toInt 9 = 9 from rfl), (show Int32.toInt 11 = 11 from rfl), (show Int32.toInt 12 = 12 from rfl), (show Int32.toInt 13 = 13 from rfl), (show Int32.toInt 15 = 15 from rfl), (show Int32.toInt 18 = 18 from rfl), (show Int32.toInt 19 = 19 from rfl)] at c_1 c_92 c_223 c_280 c_281 c_282 c_297 c_298 c_299; omega)), (((gFr.refl.up hU220 hM_0 (by simp)).up hU305 hU220.1 (by simp)).up hU309 hU305.1 (by simp)), (by first | exact Nat.le_zero.mp hk9 | omega)⟩) dX5_take_179 (Nat.le_of_ble_eq_true rfl) (Nat.le_of_ble_eq_true rfl)
              · refine g_aload_n hC dX5_take_122 0 rfl gRef_r 123 rfl ?_
                refine g_aload_n hC dX5_take_123 0 rfl gRef_r 124 rfl ?_
                refine g_get (v := .int (F221 5)) hC cI4 hU220.1 5 (Nat.le_of_ble_eq_true rfl) q244 rfl dX5_take_124 127 rfl ?_
                refine g_topi (y := s1 5) (by rw [eF222, pk_un (by omega)]) ?_
                refine g_iconst hC dX5_take_127 ki_1 128 rfl ?_
                refine g_ishl hC dX5_take_128 129 rfl ?_
                refine g_iload_n hC dX5_take_129 1 rfl 130 rfl ?_
                refine g_ior hC dX5_take_130 131 rfl ?_
                obtain ⟨F314, eF315⟩ : ∃ z9, z9 = upd F221 5 (((s1 5) <<< (1 &&& 31)) ||| lev) := ⟨_, rfl⟩
                refine g_put hC cI4 hU220.1 5 (Nat.le_of_ble_eq_true rfl) q244 rfl rfl rfl (Nat.le_of_ble_eq_true rfl) dX5_take_131 (fs' := smL G  F314) (by rw [eF315]; exact smL_s5) 134 rfl (fun M312 hU313 => ?_)
                refine g_goto hC dX5_take_134 169 rfl ?_
                refine g_aload_n hC dX5_take_169 0 rfl gRef_r 170 rfl ?_
                refine g_dup hC dX5_take_170 rfl 171 rfl ?_
                refine g_get (v := .int (F314 2)) hC cI4 hU313.1 2 (Nat.le_of_ble_eq_true rfl) q238 rfl dX5_take_171 174 rfl ?_
                refine g_topi (y := s1 2) (by rw [eF315, pk_un (by omega), eF222, pk_un (by omega)]) ?_
                refine g_iconst hC dX5_take_174 ki_1 175 rfl ?_
                refine g_iadd hC dX5_take_175 176 rfl ?_
                obtain ⟨F318, eF319⟩ : ∃ z9, z9 = upd F314 2 ((s1 2) + 1) := ⟨_, rfl⟩
                refine g_put hC cI4 hU313.1 2 (Nat.le_of_ble_eq_true rfl) q238 rfl rfl rfl (Nat.le_of_ble_eq_true rfl) dX5_take_176 (fs' := smL G  F318) (by rw [eF319]; exact smL_s2) 179 rfl (fun M316 hU317 => ?_)
                exact g_vret hC (fun k9 hk9 => ⟨(by first | (rw [hU317.1]; have hT1 : smT1 s1 lev = F221 := (by simp only [smT1, eq_false c_1, eq_true (Int32.not_lt.mp c_1), eq_false c_92, eq_true (Int32.not_le.mp c_92), eq_false c_223, eq_true (Int32.not_le.mp c_223), eq_true c_280, eq_false (Int32.not_lt.mpr c_280), eq_false c_281, eq_false c_282, eq_true (Int32.not_lt.mp c_282), eq_false c_297, eq_true (Int32.not_le.mp c_297), if_true, if_false, true_and, and_true, false_and, and_false, true_or, or_true, false_or, or_false, not_true_eq_false, not_false_eq_true, reduceIte, decide_true, decide_false, Bool.false_eq_true]; exact eF222.symm); simp only [smTake, hT1, smT2, eq_false c_1, eq_true (Int32.not_lt.mp c_1), eq_false c_92, eq_true (Int32.not_le.mp c_92), eq_false c_223, eq_true (Int32.not_le.mp c_223), eq_true c_280, eq_false (Int32.not_lt.mpr c_280), eq_false c_281, eq_false c_282, eq_true (Int32.not_lt.mp c_282), eq_false c_297, eq_true (Int32.not_le.mp c_297), if_true, if_false, true_and, and_true, false_and, and_false, true_or, or_true, false_or, or_false, not_true_eq_false, not_false_eq_true, reduceIte, decide_true, decide_false, Bool.false_eq_true, ← eF222, ← eF315, ← eF319]; done) | (exfalso; simp only [Int32.lt_iff_toInt_lt, Int32.le_iff_toInt_le, ← Int32.toInt_inj, (show Int32.toInt 0 = 0 from rfl), (show Int32.toInt 1 = 1 from rfl), (show Int32.toInt 2 = 2 from rfl), (show Int32.toInt 3 = 3 from rfl), (show Int32.toInt 4 = 4 from rfl), (show Int32.toInt 5 = 5 from rfl), (show Int32.toInt 6 = 6 from rfl), (show Int32.toInt 7 = 7 from rfl), (show Int32.toInt 8 = 8 from rfl), (show Int32.toInt 9 = 9 from rfl), (show Int32.toInt 11 = 11 from rfl), (show Int32.toInt 12 = 12 from rfl), (show Int32.toInt 13 = 13 from rfl), (show Int32.toInt 15 = 15 from rfl), (show Int32.toInt 18 = 18 from rfl), (show Int32.toInt 19 = 19 from rfl)] at c_1 c_92 c_223 c_280 c_281 c_282 c_297; omega)), (((gFr.refl.up hU220 hM_0 (by simp)).up hU313 hU220.1 (by simp)).up hU317 hU313.1 (by simp)), (by first | exact Nat.le_zero.mp hk9 | omega)⟩) dX5_take_179 (Nat.le_of_ble_eq_true rfl) (Nat.le_of_ble_eq_true rfl)
          · refine g_aload_n hC dX5_take_87 0 rfl gRef_r 88 rfl ?_
            refine g_iload_n hC dX5_take_88 1 rfl 89 rfl ?_
            refine g_iconst hC dX5_take_89 ki_1 90 rfl ?_
            refine g_icmp_ne hC dX5_take_90 97 rfl 93 rfl (fun c_320 => ?_) (fun c_320 => ?_)
            · refine g_iconst hC dX5_take_97 ki_0 98 rfl ?_
              obtain ⟨F323, eF324⟩ : ∃ z9, z9 = upd F221 4 0 := ⟨_, rfl⟩
              refine g_put hC cI4 hU220.1 4 (Nat.le_of_ble_eq_true rfl) q242 rfl (by decide) rfl (Nat.le_of_ble_eq_true rfl) dX5_take_98 (fs' := smL G  F323) (by rw [eF324]; exact smL_s4) 101 rfl (fun M321 hU322 => ?_)
              refine g_goto hC dX5_take_101 169 rfl ?_
              refine g_aload_n hC dX5_take_169 0 rfl gRef_r 170 rfl ?_
              refine g_dup hC dX5_take_170 rfl 171 rfl ?_
              refine g_get (v := .int (F323 2)) hC cI4 hU322.1 2 (Nat.le_of_ble_eq_true rfl) q238 rfl dX5_take_171 174 rfl ?_
              refine g_topi (y := s1 2) (by rw [eF324, pk_un (by omega), eF222, pk_un (by omega)]) ?_
              refine g_iconst hC dX5_take_174 ki_1 175 rfl ?_
              refine g_iadd hC dX5_take_175 176 rfl ?_
              obtain ⟨F327, eF328⟩ : ∃ z9, z9 = upd F323 2 ((s1 2) + 1) := ⟨_, rfl⟩
              refine g_put hC cI4 hU322.1 2 (Nat.le_of_ble_eq_true rfl) q238 rfl rfl rfl (Nat.le_of_ble_eq_true rfl) dX5_take_176 (fs' := smL G  F327) (by rw [eF328]; exact smL_s2) 179 rfl (fun M325 hU326 => ?_)
              exact g_vret hC (fun k9 hk9 => ⟨(by first | (rw [hU326.1]; have hT1 : smT1 s1 lev = F221 := (by simp only [smT1, eq_false c_1, eq_true (Int32.not_lt.mp c_1), eq_false c_92, eq_true (Int32.not_le.mp c_92), eq_false c_223, eq_true (Int32.not_le.mp c_223), eq_true c_280, eq_false (Int32.not_lt.mpr c_280), eq_true c_281, eq_false c_320, if_true, if_false, true_and, and_true, false_and, and_false, true_or, or_true, false_or, or_false, not_true_eq_false, not_false_eq_true, reduceIte, decide_true, decide_false, Bool.false_eq_true]; exact eF222.symm); simp only [smTake, hT1, smT2, eq_false c_1, eq_true (Int32.not_lt.mp c_1), eq_false c_92, eq_true (Int32.not_le.mp c_92), eq_false c_223, eq_true (Int32.not_le.mp c_223), eq_true c_280, eq_false (Int32.not_lt.mpr c_280), eq_true c_281, eq_false c_320, if_true, if_false, true_and, and_true, false_and, and_false, true_or, or_true, false_or, or_false, not_true_eq_false, not_false_eq_true, reduceIte, decide_true, decide_false, Bool.false_eq_true, ← eF222, ← eF324, ← eF328]; done) | (exfalso; simp only [Int32.lt_iff_toInt_lt, Int32.le_iff_toInt_le, ← Int32.toInt_inj, (show Int32.toInt 0 = 0 from rfl), (show Int32.toInt 1 = 1 from rfl), (show Int32.toInt 2 = 2 from rfl), (show Int32.toInt 3 = 3 from rfl), (show Int32.toInt 4 = 4 from rfl), (show Int32.toInt 5 = 5 from rfl), (show Int32.toInt 6 = 6 from rfl), (show Int32.toInt 7 = 7 from rfl), (show Int32.toInt 8 = 8 from rfl), (show Int32.toInt 9 = 9 from rfl), (show Int32.toInt 11 = 11 from rfl), (show Int32.toInt 12 = 12 from rfl), (show Int32.toInt 13 = 13 from rfl), (show Int32.toInt 15 = 15 from rfl), (show Int32.toInt 18 = 18 from rfl), (show Int32.toInt 19 = 19 from rfl)] at c_1 c_92 c_223 c_280 c_281 c_320; omega)), (((gFr.refl.up hU220 hM_0 (by simp)).up hU322 hU220.1 (by simp)).up hU326 hU322.1 (by simp)), (by first | exact Nat.le_zero.mp hk9 | omega)⟩) dX5_take_179 (Nat.le_of_ble_eq_true rfl) (Nat.le_of_ble_eq_true rfl)
            · refine g_iconst hC dX5_take_93 ki_1 94 rfl ?_
              refine g_goto hC dX5_take_94 98 rfl ?_
              obtain ⟨F331, eF332⟩ : ∃ z9, z9 = upd F221 4 1 := ⟨_, rfl⟩
              refine g_put hC cI4 hU220.1 4 (Nat.le_of_ble_eq_true rfl) q242 rfl (by decide) rfl (Nat.le_of_ble_eq_true rfl) dX5_take_98 (fs' := smL G  F331) (by rw [eF332]; exact smL_s4) 101 rfl (fun M329 hU330 => ?_)
              refine g_goto hC dX5_take_101 169 rfl ?_
              refine g_aload_n hC dX5_take_169 0 rfl gRef_r 170 rfl ?_
              refine g_dup hC dX5_take_170 rfl 171 rfl ?_
              refine g_get (v := .int (F331 2)) hC cI4 hU330.1 2 (Nat.le_of_ble_eq_true rfl) q238 rfl dX5_take_171 174 rfl ?_
              refine g_topi (y := s1 2) (by rw [eF332, pk_un (by omega), eF222, pk_un (by omega)]) ?_
              refine g_iconst hC dX5_take_174 ki_1 175 rfl ?_
              refine g_iadd hC dX5_take_175 176 rfl ?_
              obtain ⟨F335, eF336⟩ : ∃ z9, z9 = upd F331 2 ((s1 2) + 1) := ⟨_, rfl⟩
              refine g_put hC cI4 hU330.1 2 (Nat.le_of_ble_eq_true rfl) q238 rfl rfl rfl (Nat.le_of_ble_eq_true rfl) dX5_take_176 (fs' := smL G  F335) (by rw [eF336]; exact smL_s2) 179 rfl (fun M333 hU334 => ?_)
              exact g_vret hC (fun k9 hk9 => ⟨(by first | (rw [hU334.1]; have hT1 : smT1 s1 lev = F221 := (by simp only [smT1, eq_false c_1, eq_true (Int32.not_lt.mp c_1), eq_false c_92, eq_true (Int32.not_le.mp c_92), eq_false c_223, eq_true (Int32.not_le.mp c_223), eq_true c_280, eq_false (Int32.not_lt.mpr c_280), eq_true c_281, eq_true c_320, if_true, if_false, true_and, and_true, false_and, and_false, true_or, or_true, false_or, or_false, not_true_eq_false, not_false_eq_true, reduceIte, decide_true, decide_false, Bool.false_eq_true]; exact eF222.symm); simp only [smTake, hT1, smT2, eq_false c_1, eq_true (Int32.not_lt.mp c_1), eq_false c_92, eq_true (Int32.not_le.mp c_92), eq_false c_223, eq_true (Int32.not_le.mp c_223), eq_true c_280, eq_false (Int32.not_lt.mpr c_280), eq_true c_281, eq_true c_320, if_true, if_false, true_and, and_true, false_and, and_false, true_or, or_true, false_or, or_false, not_true_eq_false, not_false_eq_true, reduceIte, decide_true, decide_false, Bool.false_eq_true, ← eF222, ← eF332, ← eF336]; done) | (exfalso; simp only [Int32.lt_iff_toInt_lt, Int32.le_iff_toInt_le, ← Int32.toInt_inj, (show Int32.toInt 0 = 0 from rfl), (show Int32.toInt 1 = 1 from rfl), (show Int32.toInt 2 = 2 from rfl), (show Int32.toInt 3 = 3 from rfl), (show Int32.toInt 4 = 4 from rfl), (show Int32.toInt 5 = 5 from rfl), (show Int32.toInt 6 = 6 from rfl), (show Int32.toInt 7 = 7 from rfl), (show Int32.toInt 8 = 8 from rfl), (show Int32.toInt 9 = 9 from rfl), (show Int32.toInt 11 = 11 from rfl), (show Int32.toInt 12 = 12 from rfl), (show Int32.toInt 13 = 13 from rfl), (show Int32.toInt 15 = 15 from rfl), (show Int32.toInt 18 = 18 from rfl), (show Int32.toInt 19 = 19 from rfl)] at c_1 c_92 c_223 c_280 c_281 c_320; omega)), (((gFr.refl.up hU220 hM_0 (by simp)).up hU330 hU220.1 (by simp)).up hU334 hU330.1 (by simp)), (by first | exact Nat.le_zero.mp hk9 | omega)⟩) dX5_take_179 (Nat.le_of_ble_eq_true rfl) (Nat.le_of_ble_eq_true rfl)
        · refine g_aload_n hC dX5_take_63 0 rfl gRef_r 64 rfl ?_
          refine g_aload_n hC dX5_take_64 0 rfl gRef_r 65 rfl ?_
          refine g_get (v := .int (F221 3)) hC cI4 hU220.1 3 (Nat.le_of_ble_eq_true rfl) q240 rfl dX5_take_65 68 rfl ?_
          refine g_topi (y := s1 3) (by rw [eF222, pk_un (by omega)]) ?_
          refine g_iconst hC dX5_take_68 ki_1 69 rfl ?_
          refine g_ishl hC dX5_take_69 70 rfl ?_
          refine g_iload_n hC dX5_take_70 1 rfl 71 rfl ?_
          refine g_ior hC dX5_take_71 72 rfl ?_
          obtain ⟨F339, eF340⟩ : ∃ z9, z9 = upd F221 3 (((s1 3) <<< (1 &&& 31)) ||| lev) := ⟨_, rfl⟩
          refine g_put hC cI4 hU220.1 3 (Nat.le_of_ble_eq_true rfl) q240 rfl rfl rfl (Nat.le_of_ble_eq_true rfl) dX5_take_72 (fs' := smL G  F339) (by rw [eF340]; exact smL_s3) 75 rfl (fun M337 hU338 => ?_)
          refine g_goto hC dX5_take_75 169 rfl ?_
          refine g_aload_n hC dX5_take_169 0 rfl gRef_r 170 rfl ?_
          refine g_dup hC dX5_take_170 rfl 171 rfl ?_
          refine g_get (v := .int (F339 2)) hC cI4 hU338.1 2 (Nat.le_of_ble_eq_true rfl) q238 rfl dX5_take_171 174 rfl ?_
          refine g_topi (y := s1 2) (by rw [eF340, pk_un (by omega), eF222, pk_un (by omega)]) ?_
          refine g_iconst hC dX5_take_174 ki_1 175 rfl ?_
          refine g_iadd hC dX5_take_175 176 rfl ?_
          obtain ⟨F343, eF344⟩ : ∃ z9, z9 = upd F339 2 ((s1 2) + 1) := ⟨_, rfl⟩
          refine g_put hC cI4 hU338.1 2 (Nat.le_of_ble_eq_true rfl) q238 rfl rfl rfl (Nat.le_of_ble_eq_true rfl) dX5_take_176 (fs' := smL G  F343) (by rw [eF344]; exact smL_s2) 179 rfl (fun M341 hU342 => ?_)
          exact g_vret hC (fun k9 hk9 => ⟨(by first | (rw [hU342.1]; have hT1 : smT1 s1 lev = F221 := (by simp only [smT1, eq_false c_1, eq_true (Int32.not_lt.mp c_1), eq_false c_92, eq_true (Int32.not_le.mp c_92), eq_false c_223, eq_true (Int32.not_le.mp c_223), eq_false c_280, eq_true (Int32.not_le.mp c_280), if_true, if_false, true_and, and_true, false_and, and_false, true_or, or_true, false_or, or_false, not_true_eq_false, not_false_eq_true, reduceIte, decide_true, decide_false, Bool.false_eq_true]; exact eF222.symm); simp only [smTake, hT1, smT2, eq_false c_1, eq_true (Int32.not_lt.mp c_1), eq_false c_92, eq_true (Int32.not_le.mp c_92), eq_false c_223, eq_true (Int32.not_le.mp c_223), eq_false c_280, eq_true (Int32.not_le.mp c_280), if_true, if_false, true_and, and_true, false_and, and_false, true_or, or_true, false_or, or_false, not_true_eq_false, not_false_eq_true, reduceIte, decide_true, decide_false, Bool.false_eq_true, ← eF222, ← eF340, ← eF344]; done) | (exfalso; simp only [Int32.lt_iff_toInt_lt, Int32.le_iff_toInt_le, ← Int32.toInt_inj, (show Int32.toInt 0 = 0 from rfl), (show Int32.toInt 1 = 1 from rfl), (show Int32.toInt 2 = 2 from rfl), (show Int32.toInt 3 = 3 from rfl), (show Int32.toInt 4 = 4 from rfl), (show Int32.toInt 5 = 5 from rfl), (show Int32.toInt 6 = 6 from rfl), (show Int32.toInt 7 = 7 from rfl), (show Int32.toInt 8 = 8 from rfl), (show Int32.toInt 9 = 9 from rfl), (show Int32.toInt 11 = 11 from rfl), (show Int32.toInt 12 = 12 from rfl), (show Int32.toInt 13 = 13 from rfl), (show Int32.toInt 15 = 15 from rfl), (show Int32.toInt 18 = 18 from rfl), (show Int32.toInt 19 = 19 from rfl)] at c_1 c_92 c_223 c_280; omega)), (((gFr.refl.up hU220 hM_0 (by simp)).up hU338 hU220.1 (by simp)).up hU342 hU338.1 (by simp)), (by first | exact Nat.le_zero.mp hk9 | omega)⟩) dX5_take_179 (Nat.le_of_ble_eq_true rfl) (Nat.le_of_ble_eq_true rfl)
set_option maxHeartbeats 4000000 in
theorem met_Nd_enter (l : Launch) (G : gG) (M : gM) (nd : Nat) (tn : Nat × Nat) (of : Nat) (ph : Nat) (cu : Option Nat) (sa : Nat) (wa : Nat) (rc : Nat) (an : Nat) (er : Nat) (g1 : Nat → Int32) (q9 : Nat)  (hM_0 : M nd = some (tn, .inr (2, ndL G of ph cu sa wa rc an er g1))) : Met l yX2_enter (ws_ yX2_enter cX2_enter 2 none) ({ frames := 0, cells := 0, slots := 0, locals := 0 }) (gPc G [.ref nd, .ref (gph G q9)] M) (gQv G (fun M9 k9 => M9 nd = some (tn, .inr (2, ndL G of q9 cu sa wa rc an er (upd g1 5 0))) ∧ gFr (gL [nd]) M M9 ∧ k9 = 0)) 0 0 (gA G) := by
  refine gMet [(0, .ref nd), (1, .ref (gph G q9))] (by decide) (Nat.le_of_ble_eq_true rfl) rfl ?_
  intro p e s m below meth c hC
  refine g_aload_n hC dX2_enter_0 0 rfl gRef_r 1 rfl ?_
  refine g_aload_n hC dX2_enter_1 1 rfl gRef_r 2 rfl ?_
  refine g_put hC cI2 hM_0 1 (Nat.le_of_ble_eq_true rfl) q369 rfl rfl rfl (Nat.le_of_ble_eq_true rfl) dX2_enter_2 (fs' := ndL G of q9 cu sa wa rc an er g1) rfl 5 rfl (fun M1 hU2 => ?_)
  refine g_aload_n hC dX2_enter_5 0 rfl gRef_r 6 rfl ?_
  refine g_iconst hC dX2_enter_6 ki_0 7 rfl ?_
  obtain ⟨F5, eF6⟩ : ∃ z9, z9 = upd g1 5 0 := ⟨_, rfl⟩
  refine g_put hC cI2 hU2.1 5 (Nat.le_of_ble_eq_true rfl) q380 rfl rfl rfl (Nat.le_of_ble_eq_true rfl) dX2_enter_7 (fs' := ndL G of q9 cu sa wa rc an er F5) (by rw [eF6]; exact ndL_s5) 10 rfl (fun M3 hU4 => ?_)
  exact g_vret hC (fun k9 hk9 => ⟨(by rw [hU4.1]; all_goals (first | rfl | (simp only [← eF6, if_true, if_false, true_and, and_true, false_and, and_false, true_or, or_true, false_or, or_false, not_true_eq_false, not_false_eq_true, reduceIte, decide_true, decide_false, Bool.false_eq_true]; done) | (simp only [← eF6, if_true, if_false, true_and, and_true, false_and, and_false, true_or, or_true, false_or, or_false, not_true_eq_false, not_false_eq_true, reduceIte, decide_true, decide_false, Bool.false_eq_true]; rfl) | (simp only [← eF6, if_true, if_false, true_and, and_true, false_and, and_false, true_or, or_true, false_or, or_false, not_true_eq_false, not_false_eq_true, reduceIte, decide_true, decide_false, Bool.false_eq_true]; done) | (simp only [← eF6]; simp only [if_true, if_false, true_and, and_true, false_and, and_false, true_or, or_true, false_or, or_false, not_true_eq_false, not_false_eq_true, reduceIte, decide_true, decide_false, Bool.false_eq_true]; done) | (simp only [← eF6]; simp only [if_true, if_false, true_and, and_true, false_and, and_false, true_or, or_true, false_or, or_false, not_true_eq_false, not_false_eq_true, reduceIte, decide_true, decide_false, Bool.false_eq_true]; done) | (simp only [← eF6]; simp only [if_true, if_false, true_and, and_true, false_and, and_false, true_or, or_true, false_or, or_false, not_true_eq_false, not_false_eq_true, reduceIte, decide_true, decide_false, Bool.false_eq_true]; simp only [← eF6]; done) | (simp only [← eF6, if_true, if_false, true_and, and_true, false_and, and_false, true_or, or_true, false_or, or_false, not_true_eq_false, not_false_eq_true, reduceIte, decide_true, decide_false, Bool.false_eq_true]; rfl) | (simp only [← eF6]; simp only [if_true, if_false, true_and, and_true, false_and, and_false, true_or, or_true, false_or, or_false, not_true_eq_false, not_false_eq_true, reduceIte, decide_true, decide_false, Bool.false_eq_true]; rfl) | (simp only [← eF6]; rfl) | (simp only [if_true, if_false, true_and, and_true, false_and, and_false, true_or, or_true, false_or, or_false, not_true_eq_false, not_false_eq_true, reduceIte, decide_true, decide_false, Bool.false_eq_true]; simp only [← eF6]; done) | (simp only [if_true, if_false, true_and, and_true, false_and, and_false, true_or, or_true, false_or, or_false, not_true_eq_false, not_false_eq_true, reduceIte, decide_true, decide_false, Bool.false_eq_true]; simp only [← eF6]; rfl) | (simp only [← eF6]; simp only [if_true, if_false, true_and, and_true, false_and, and_false, true_or, or_true, false_or, or_false, not_true_eq_false, not_false_eq_true, reduceIte, decide_true, decide_false, Bool.false_eq_true]; simp only [← eF6, if_true, if_false, true_and, and_true, false_and, and_false, true_or, or_true, false_or, or_false, not_true_eq_false, not_false_eq_true, reduceIte, decide_true, decide_false, Bool.false_eq_true]; done) | (subst eF6; simp_all []; done))), ((gFr.refl.up hU2 hM_0 (by simp)).up hU4 hU2.1 (by simp)), (by first | exact Nat.le_zero.mp hk9 | omega)⟩) dX2_enter_10 (Nat.le_of_ble_eq_true rfl) (Nat.le_of_ble_eq_true rfl)
def cCnt (g : Nat → Int32) : Nat → Int32 := upd g 5 (g 5 + 1)
set_option maxHeartbeats 4000000 in
theorem met_Nd_counts (l : Launch) (G : gG) (M : gM) (nd : Nat) (tn : Nat × Nat) (of : Nat) (ph : Nat) (cu : Option Nat) (sa : Nat) (wa : Nat) (rc : Nat) (an : Nat) (er : Nat) (g1 : Nat → Int32) (x : Int32)  (hM_0 : M nd = some (tn, .inr (2, ndL G of ph cu sa wa rc an er g1))) : Met l yX2_counts (ws_ yX2_counts cX2_counts 2 (some .boolean)) ({ frames := 0, cells := 0, slots := 0, locals := 0 }) (gPc G [.ref nd, .int x] M) (gQi G (fun r9 M9 k9 => r9 = (bI (decide (g1 5 + 1 = x))) ∧ M9 nd = some (tn, .inr (2, ndL G of ph cu sa wa rc an er (cCnt g1))) ∧ gFr (gL [nd]) M M9 ∧ k9 = 0)) 0 0 (gA G) := by
  refine gMet [(0, .ref nd), (1, .int x)] (by decide) (Nat.le_of_ble_eq_true rfl) rfl ?_
  intro p e s m below meth c hC
  refine g_aload_n hC dX2_counts_0 0 rfl gRef_r 1 rfl ?_
  refine g_dup hC dX2_counts_1 rfl 2 rfl ?_
  refine g_get (v := .int (g1 5)) hC cI2 hM_0 5 (Nat.le_of_ble_eq_true rfl) q380 rfl dX2_counts_2 5 rfl ?_
  refine g_iconst hC dX2_counts_5 ki_1 6 rfl ?_
  refine g_iadd hC dX2_counts_6 7 rfl ?_
  obtain ⟨F3, eF4⟩ : ∃ z9, z9 = upd g1 5 ((g1 5) + 1) := ⟨_, rfl⟩
  refine g_put hC cI2 hM_0 5 (Nat.le_of_ble_eq_true rfl) q380 rfl rfl rfl (Nat.le_of_ble_eq_true rfl) dX2_counts_7 (fs' := ndL G of ph cu sa wa rc an er F3) (by rw [eF4]; exact ndL_s5) 10 rfl (fun M1 hU2 => ?_)
  refine g_aload_n hC dX2_counts_10 0 rfl gRef_r 11 rfl ?_
  refine g_get (v := .int (F3 5)) hC cI2 hU2.1 5 (Nat.le_of_ble_eq_true rfl) q380 rfl dX2_counts_11 14 rfl ?_
  refine g_topi (y := (g1 5) + 1) (by rw [eF4]; exact pk_us) ?_
  refine g_iload_n hC dX2_counts_14 1 rfl 15 rfl ?_
  refine g_icmp_ne hC dX2_counts_15 22 rfl 18 rfl (fun c_5 => ?_) (fun c_5 => ?_)
  · refine g_iconst hC dX2_counts_22 ki_0 23 rfl ?_
    exact g_zret (v := 0) hC (by decide) (fun k9 hk9 => ⟨(bI_nd (by first | assumption | (simp_all; done))), (by rw [hU2.1]; all_goals (first | rfl | (simp only [cCnt, ← eF4, eq_false c_5, if_true, if_false, true_and, and_true, false_and, and_false, true_or, or_true, false_or, or_false, not_true_eq_false, not_false_eq_true, reduceIte, decide_true, decide_false, Bool.false_eq_true]; done) | (simp only [cCnt, ← eF4, eq_false c_5, if_true, if_false, true_and, and_true, false_and, and_false, true_or, or_true, false_or, or_false, not_true_eq_false, not_false_eq_true, reduceIte, decide_true, decide_false, Bool.false_eq_true]; rfl) | (simp only [cCnt, ← eF4, c_5, if_true, if_false, true_and, and_true, false_and, and_false, true_or, or_true, false_or, or_false, not_true_eq_false, not_false_eq_true, reduceIte, decide_true, decide_false, Bool.false_eq_true]; done) | (simp only [cCnt, ← eF4]; simp only [if_true, if_false, true_and, and_true, false_and, and_false, true_or, or_true, false_or, or_false, not_true_eq_false, not_false_eq_true, reduceIte, decide_true, decide_false, Bool.false_eq_true, eq_false c_5]; done) | (simp only [cCnt, ← eF4]; simp only [if_true, if_false, true_and, and_true, false_and, and_false, true_or, or_true, false_or, or_false, not_true_eq_false, not_false_eq_true, reduceIte, decide_true, decide_false, Bool.false_eq_true, c_5]; done) | (simp only [cCnt, ← eF4]; simp only [if_true, if_false, true_and, and_true, false_and, and_false, true_or, or_true, false_or, or_false, not_true_eq_false, not_false_eq_true, reduceIte, decide_true, decide_false, Bool.false_eq_true, c_5]; simp only [cCnt, ← eF4]; done) | (simp only [cCnt, ← eF4, c_5, if_true, if_false, true_and, and_true, false_and, and_false, true_or, or_true, false_or, or_false, not_true_eq_false, not_false_eq_true, reduceIte, decide_true, decide_false, Bool.false_eq_true]; rfl) | (simp only [cCnt, ← eF4]; simp only [if_true, if_false, true_and, and_true, false_and, and_false, true_or, or_true, false_or, or_false, not_true_eq_false, not_false_eq_true, reduceIte, decide_true, decide_false, Bool.false_eq_true, c_5]; rfl) | (simp only [cCnt, ← eF4]; rfl) | (simp only [cCnt, c_5, if_true, if_false, true_and, and_true, false_and, and_false, true_or, or_true, false_or, or_false, not_true_eq_false, not_false_eq_true, reduceIte, decide_true, decide_false, Bool.false_eq_true]; simp only [← eF4]; done) | (simp only [cCnt, c_5, if_true, if_false, true_and, and_true, false_and, and_false, true_or, or_true, false_or, or_false, not_true_eq_false, not_false_eq_true, reduceIte, decide_true, decide_false, Bool.false_eq_true]; simp only [← eF4]; rfl) | (simp only [cCnt, ← eF4]; simp only [if_true, if_false, true_and, and_true, false_and, and_false, true_or, or_true, false_or, or_false, not_true_eq_false, not_false_eq_true, reduceIte, decide_true, decide_false, Bool.false_eq_true, c_5]; simp only [cCnt, ← eF4, c_5, if_true, if_false, true_and, and_true, false_and, and_false, true_or, or_true, false_or, or_false, not_true_eq_false, not_false_eq_true, reduceIte, decide_true, decide_false, Bool.false_eq_true]; done) | (subst eF4; simp_all [cCnt]; done))), (gFr.refl.up hU2 hM_0 (by simp)), (by first | exact Nat.le_zero.mp hk9 | omega)⟩) dX2_counts_23 (Nat.le_of_ble_eq_true rfl) (Nat.le_of_ble_eq_true rfl)
  · refine g_iconst hC dX2_counts_18 ki_1 19 rfl ?_
    refine g_goto hC dX2_counts_19 23 rfl ?_
    exact g_zret (v := 1) hC (by decide) (fun k9 hk9 => ⟨(bI_d (by first | assumption | (simp_all; done))), (by rw [hU2.1]; all_goals (first | rfl | (simp only [cCnt, ← eF4, eq_true c_5, if_true, if_false, true_and, and_true, false_and, and_false, true_or, or_true, false_or, or_false, not_true_eq_false, not_false_eq_true, reduceIte, decide_true, decide_false, Bool.false_eq_true]; done) | (simp only [cCnt, ← eF4, eq_true c_5, if_true, if_false, true_and, and_true, false_and, and_false, true_or, or_true, false_or, or_false, not_true_eq_false, not_false_eq_true, reduceIte, decide_true, decide_false, Bool.false_eq_true]; rfl) | (simp only [cCnt, ← eF4, c_5, if_true, if_false, true_and, and_true, false_and, and_false, true_or, or_true, false_or, or_false, not_true_eq_false, not_false_eq_true, reduceIte, decide_true, decide_false, Bool.false_eq_true]; done) | (simp only [cCnt, ← eF4]; simp only [if_true, if_false, true_and, and_true, false_and, and_false, true_or, or_true, false_or, or_false, not_true_eq_false, not_false_eq_true, reduceIte, decide_true, decide_false, Bool.false_eq_true, eq_true c_5]; done) | (simp only [cCnt, ← eF4]; simp only [if_true, if_false, true_and, and_true, false_and, and_false, true_or, or_true, false_or, or_false, not_true_eq_false, not_false_eq_true, reduceIte, decide_true, decide_false, Bool.false_eq_true, c_5]; done) | (simp only [cCnt, ← eF4]; simp only [if_true, if_false, true_and, and_true, false_and, and_false, true_or, or_true, false_or, or_false, not_true_eq_false, not_false_eq_true, reduceIte, decide_true, decide_false, Bool.false_eq_true, c_5]; simp only [cCnt, ← eF4]; done) | (simp only [cCnt, ← eF4, c_5, if_true, if_false, true_and, and_true, false_and, and_false, true_or, or_true, false_or, or_false, not_true_eq_false, not_false_eq_true, reduceIte, decide_true, decide_false, Bool.false_eq_true]; rfl) | (simp only [cCnt, ← eF4]; simp only [if_true, if_false, true_and, and_true, false_and, and_false, true_or, or_true, false_or, or_false, not_true_eq_false, not_false_eq_true, reduceIte, decide_true, decide_false, Bool.false_eq_true, c_5]; rfl) | (simp only [cCnt, ← eF4]; rfl) | (simp only [cCnt, c_5, if_true, if_false, true_and, and_true, false_and, and_false, true_or, or_true, false_or, or_false, not_true_eq_false, not_false_eq_true, reduceIte, decide_true, decide_false, Bool.false_eq_true]; simp only [← eF4]; done) | (simp only [cCnt, c_5, if_true, if_false, true_and, and_true, false_and, and_false, true_or, or_true, false_or, or_false, not_true_eq_false, not_false_eq_true, reduceIte, decide_true, decide_false, Bool.false_eq_true]; simp only [← eF4]; rfl) | (simp only [cCnt, ← eF4]; simp only [if_true, if_false, true_and, and_true, false_and, and_false, true_or, or_true, false_or, or_false, not_true_eq_false, not_false_eq_true, reduceIte, decide_true, decide_false, Bool.false_eq_true, c_5]; simp only [cCnt, ← eF4, c_5, if_true, if_false, true_and, and_true, false_and, and_false, true_or, or_true, false_or, or_false, not_true_eq_false, not_false_eq_true, reduceIte, decide_true, decide_false, Bool.false_eq_true]; done) | (subst eF4; simp_all [cCnt]; done))), (gFr.refl.up hU2 hM_0 (by simp)), (by first | exact Nat.le_zero.mp hk9 | omega)⟩) dX2_counts_23 (Nat.le_of_ble_eq_true rfl) (Nat.le_of_ble_eq_true rfl)
abbrev cPas (g : Nat → Int32) (pl : Int32) : Bool := decide (pl ≤ g 3 ∨ pl ≤ g 4)
set_option maxHeartbeats 4000000 in
theorem met_Nd_isPassive (l : Launch) (G : gG) (M : gM) (nd : Nat) (tn : Nat × Nat) (of : Nat) (ph : Nat) (cu : Option Nat) (sa : Nat) (wa : Nat) (rc : Nat) (an : Nat) (er : Nat) (g1 : Nat → Int32) (tb : Nat × Nat) (bn : Nat) (bd : Nat) (bh : Nat) (bt : Int32) (pl : Int32) (ol : Int32) (rv : Int32)  (hM_0 : M nd = some (tn, .inr (2, ndL G of ph cu sa wa rc an er g1))) (hM_1 : M of = some (tb, .inr (1, [.ref bn, .ref bd, .ref bh, .int bt, .int pl, .int ol, .int rv]))) : Met l yX2_isPassive (ws_ yX2_isPassive cX2_isPassive 1 (some .boolean)) ({ frames := 0, cells := 0, slots := 0, locals := 0 }) (gPc G [.ref nd] M) (gQi G (fun r9 M9 k9 => r9 = (bI (cPas g1 pl)) ∧ M9 = M ∧ k9 = 0)) 0 0 (gA G) := by
  refine gMet [(0, .ref nd)] (by decide) (Nat.le_of_ble_eq_true rfl) rfl ?_
  intro p e s m below meth c hC
  refine g_aload_n hC dX2_isPassive_0 0 rfl gRef_r 1 rfl ?_
  refine g_get (v := .int (g1 3)) hC cI2 hM_0 3 (Nat.le_of_ble_eq_true rfl) q374 rfl dX2_isPassive_1 4 rfl ?_
  refine g_aload_n hC dX2_isPassive_4 0 rfl gRef_r 5 rfl ?_
  refine g_get (v := .ref of) hC cI2 hM_0 0 (Nat.le_of_ble_eq_true rfl) q367 rfl dX2_isPassive_5 8 rfl ?_
  refine g_getN (v := .int pl) hC cI1 hM_1 4 (Nat.le_of_ble_eq_true rfl) q478 rfl dX2_isPassive_8 11 rfl ?_
  refine g_icmp_ge hC dX2_isPassive_11 28 rfl 14 rfl (fun c_1 => ?_) (fun c_1 => ?_)
  · refine g_iconst hC dX2_isPassive_28 ki_1 29 rfl ?_
    refine g_goto hC dX2_isPassive_29 33 rfl ?_
    exact g_zret (v := 1) hC (by decide) (fun k9 hk9 => ⟨(bI_d (by simp_all [Int32.not_le])), rfl, Nat.le_zero.mp hk9⟩) dX2_isPassive_33 (Nat.le_of_ble_eq_true rfl) (Nat.le_of_ble_eq_true rfl)
  · refine g_aload_n hC dX2_isPassive_14 0 rfl gRef_r 15 rfl ?_
    refine g_get (v := .int (g1 4)) hC cI2 hM_0 4 (Nat.le_of_ble_eq_true rfl) q377 rfl dX2_isPassive_15 18 rfl ?_
    refine g_aload_n hC dX2_isPassive_18 0 rfl gRef_r 19 rfl ?_
    refine g_get (v := .ref of) hC cI2 hM_0 0 (Nat.le_of_ble_eq_true rfl) q367 rfl dX2_isPassive_19 22 rfl ?_
    refine g_getN (v := .int pl) hC cI1 hM_1 4 (Nat.le_of_ble_eq_true rfl) q478 rfl dX2_isPassive_22 25 rfl ?_
    refine g_icmp_lt hC dX2_isPassive_25 32 rfl 28 rfl (fun c_2 => ?_) (fun c_2 => ?_)
    · refine g_iconst hC dX2_isPassive_32 ki_0 33 rfl ?_
      exact g_zret (v := 0) hC (by decide) (fun k9 hk9 => ⟨(bI_nd (by simp_all [Int32.not_le])), rfl, Nat.le_zero.mp hk9⟩) dX2_isPassive_33 (Nat.le_of_ble_eq_true rfl) (Nat.le_of_ble_eq_true rfl)
    · refine g_iconst hC dX2_isPassive_28 ki_1 29 rfl ?_
      refine g_goto hC dX2_isPassive_29 33 rfl ?_
      exact g_zret (v := 1) hC (by decide) (fun k9 hk9 => ⟨(bI_d (by simp_all [Int32.not_le])), rfl, Nat.le_zero.mp hk9⟩) dX2_isPassive_33 (Nat.le_of_ble_eq_true rfl) (Nat.le_of_ble_eq_true rfl)
