/-! the bus: disturbed, step -/
set_option maxRecDepth 100000
theorem isNd.cell {M : gM} {G : gG} {ta k of nd : Nat} {x : NS} (h : isNd M G ta k of nd x) : ∃ sa wa rc an er, M nd = some ((ta, 16 * k), .inr (2, ndL G of x.ph x.cu sa wa rc an er x.g)) := by
  obtain ⟨sa, wa, rc, an, er, wq, wm, rq, rh, h0, -⟩ := h
  exact ⟨sa, wa, rc, an, er, h0⟩
theorem ndL_inj {G : gG} {of ph sa wa rc an er sa' wa' rc' an' er' : Nat} {cu : Option Nat} {g : Nat → Int32} (h : ndL G of ph cu sa wa rc an er g = ndL G of ph cu sa' wa' rc' an' er' g) : sa = sa' ∧ wa = wa' ∧ rc = rc' ∧ an = an' ∧ er = er' := by
  unfold ndL at h
  simp only [List.cons.injEq, Value.ref.injEq, true_and, and_true] at h
  exact ⟨h.1, h.2.1, h.2.2.1, h.2.2.2.1, h.2.2.2.2⟩
theorem isNd.up {M M' : gM} {G : gG} {ta k of nd ph' : Nat} {cu' : Option Nat} {g' : Nat → Int32} {x : NS} {sa wa rc an er : Nat} (h : isNd M G ta k of nd x) (hc : M nd = some ((ta, 16 * k), .inr (2, ndL G of x.ph x.cu sa wa rc an er x.g))) (hU : gUp M M' nd ((ta, 16 * k), .inr (2, ndL G of ph' cu' sa wa rc an er g'))) (hta : 2 ≤ ta) : isNd M' G ta k of nd (ph', cu', g', x.s, x.e, x.W, x.R, x.C, x.ad) := by
  obtain ⟨sa1, wa1, rc1, an1, er1, wq, wm, rq, rh, h0, h1, h2, h3, h4, h5, h8, f1, f2, tm, aw, i1, i2, i3⟩ := h
  have e := hc.symm.trans h0
  simp only [Option.some.injEq, Prod.mk.injEq, Sum.inr.injEq, true_and] at e
  obtain ⟨rfl, rfl, rfl, rfl, rfl⟩ := ndL_inj e
  have hF : gFr (gT (fun u => u = (ta, 16 * k))) M M' := fun b t e hb hn => hU.n (fun z => hn (by subst z; rw [hc] at hb; cases hb; rfl)) hb
  refine ⟨sa, wa, rc, an, er, wq, wm, rq, rh, hU.1, hF _ _ _ h1 (by simp [gT]), hF _ _ _ h2 (by simp [gT]), hF _ _ _ h3 (by simp [gT]), hF _ _ _ h4 (by simp [gT]), hF _ _ _ h5 (by simp [gT]), hF _ _ _ h8 (by simp [gT]), f1.fr (hF.mono ?_), f2.fr (hF.mono ?_), tm.fr (hF.mono ?_), aw.fr (hF.mono ?_), i1, i2, i3⟩
  all_goals (intro b t q; obtain ⟨u9, v9⟩ := t; simp only [gT, Prod.mk.injEq, tgE, tg0, ndT] at q ⊢; omega)
set_option maxHeartbeats 4000000 in
theorem met_B_disturbed (l : Launch) (G : gG) (M : gM) (of : Nat) (ta : Nat) (bn : Nat) (bd : Nat) (bh : Nat) (bt : Int32) (pl : Int32) (ol : Int32) (rv : Int32) (D : List dsE) (mc : Int32) (hta : 2 ≤ ta ∧ ta < 9) (hD8 : D.length ≤ 8) (hM_0 : M of = some ((ta, 100), .inr (1, [.ref bn, .ref bd, .ref bh, .int bt, .int pl, .int ol, .int rv]))) (hM_1 : M bd = some ((ta, 102), .inr (17, [.int mc, .int (nI D.length), va_rf (llN D none), va_rf (llZ none D)]))) (hP_0 : lls M (ta, 103) D) (hP_1 : dss M D) : Met l yX1_disturbed (ws_ yX1_disturbed cX1_disturbed 4 (some .int)) ({ frames := 7, cells := 1, slots := 5, locals := 170 }) (gPc G [.ref of] M) (gQi G (fun r9 M9 k9 => ∃ m9 : Int32, r9 = (cSet bt D 0) ∧ M9 bd = some ((ta, 102), .inr (17, [.int m9, .int (nI ((dLeft bt D).length)), va_rf (llN (dLeft bt D) none), va_rf (llZ none (dLeft bt D))])) ∧ lls M9 (ta, 103) (dLeft bt D) ∧ gFr (gT (fun t => (tgE ta 102 t ∨ tgE ta 103 t) ∨ t.1 = 9)) M M9 ∧ k9 ≤ 1)) 1 5 (gA G) := by
  refine gMet [(0, .ref of)] (by decide) (Nat.le_of_ble_eq_true rfl) rfl ?_
  intro p e s m below meth c hC
  refine g_iconst hC dX1_disturbed_0 ki_0 1 rfl ?_
  refine g_istore_n hC dX1_disturbed_1 rfl (Nat.le_of_ble_eq_true rfl) [(1, .int 0), (0, .ref of)] rfl 2 rfl ?_
  refine g_aload_n hC dX1_disturbed_2 1 rfl gRef_r 3 rfl ?_
  refine g_get (v := .ref bd) hC cI1 hM_0 1 (Nat.le_of_ble_eq_true rfl) q471 rfl dX1_disturbed_3 6 rfl ?_
  refine g_callq (g_U (n := 0) (As := []) (rest := []) hC ⟨q1876, q1878, q1879, q106, q1880, (Or.inl rfl), by decide +kernel⟩ q1875 (gOf.of hC.K cI17 hM_1) (met_LL_iterator l G M bd (ta, 102) (ta, 103) mc D hD8 hM_1) ⟨rfl, rfl⟩ ⟨(Nat.le_of_ble_eq_true rfl), (Nat.le_of_ble_eq_true rfl)⟩ rfl (Nat.le_of_ble_eq_true rfl) dX1_disturbed_6 rfl ⟨(Nat.le_of_ble_eq_true rfl), (Nat.le_of_ble_eq_true rfl)⟩) 1 (Nat.le_of_ble_eq_true rfl) 5 (Nat.le_of_ble_eq_true rfl) 9 rfl (fun r4 M1 k2 hp3 => ?_)
  obtain ⟨i9_5, rfl, hc6, hF7, hk8⟩ := hp3
  have hR9 : M1 bd = some ((ta, 102), .inr (17, [.int mc, .int (nI ((([] : List dsE) ++ D).length)), va_rf (llN (([] : List dsE) ++ D) none), va_rf (llZ none (([] : List dsE) ++ D))])) := (hF7 _ _ _ hM_1 gno0)
  have hR10 : M1 i9_5 = some ((9, 0), .inr (19, [va_rf none, va_rf (llN D none), .int (nI ([] : List dsE).length), .int mc, .ref bd])) := hc6
  have hR11 : lls M1 (ta, 103) (([] : List dsE) ++ D) := (lls.fr hP_0 (gFr.refl.trf hF7 (fun b t e hb hn => gno0)))
  refine g_astore_n hC dX1_disturbed_9 rfl gRef_r (Nat.le_of_ble_eq_true rfl) [(2, .ref i9_5), (1, .int 0), (0, .ref of)] rfl 10 rfl ?_
  have loop10 : ∀ (n9 : Nat) (A : List dsE) (B : List dsE) (sv : Int32) (lr : Option Nat) (it : Nat) (mc : Int32) (ML : gM), (hl8 : (A ++ B).length ≤ 8) → (hcs : cSet bt B sv = cSet bt D 0) → (hdl : A ++ dLeft bt B = dLeft bt D) → (hB : ∀ e ∈ B, e ∈ D) → B.length < n9 → (ML of = some ((ta, 100), .inr (1, [.ref bn, .ref bd, .ref bh, .int bt, .int pl, .int ol, .int rv]))) → (ML bd = some ((ta, 102), .inr (17, [.int mc, .int (nI ((A ++ B).length)), va_rf (llN (A ++ B) none), va_rf (llZ none (A ++ B))]))) → (ML it = some ((9, 0), .inr (19, [va_rf lr, va_rf (llN B none), .int (nI A.length), .int mc, .ref bd]))) → (lls ML (ta, 103) (A ++ B)) → (dss ML D) → gFr (gT (fun t => (tgE ta 102 t ∨ tgE ta 103 t) ∨ t.1 = 9)) M ML → gJ p l e ({ frames := 7, cells := 1, slots := 5, locals := 170 } : Room) s m ([.ref of] : List Value).toArray below meth c G 4 (MQ below (gQi G (fun r9 M9 k9 => ∃ m9 : Int32, r9 = (cSet bt D 0) ∧ M9 bd = some ((ta, 102), .inr (17, [.int m9, .int (nI ((dLeft bt D).length)), va_rf (llN (dLeft bt D) none), va_rf (llZ none (dLeft bt D))])) ∧ lls M9 (ta, 103) (dLeft bt D) ∧ gFr (gT (fun t => (tgE ta 102 t ∨ tgE ta 103 t) ∨ t.1 = 9)) M M9 ∧ k9 ≤ 1)) ([.ref of] : List Value).toArray s 1 5 (gA G)) 1 5 ML 10 [(0, .ref of), (1, .int sv), (2, .ref it)] [] := by
    intro n9
    induction n9 with
    | zero => intro A B sv lr it mc ML hl8 hcs hdl hB hmu; exact absurd hmu (Nat.not_lt_zero _)
    | succ n9 ih =>
      intro A B sv lr it mc ML hl8 hcs hdl hB hmu hL_0 hL_1 hL_2 hLp_0 hLp_1 hLF
      refine g_aload_n hC dX1_disturbed_10 2 rfl gRef_r 11 rfl ?_
      refine g_callFiP (g_F (n := 0) (As := []) (rest := []) hC ⟨by decide +kernel, q1319, q1321, q152, q1323, by decide +kernel⟩ q1961 (gOf.of hC.K cI19 hL_2) (hC.at cI19) (met_LLi_hasNext l G ML bd (ta, 102) (ta, 103) mc ((A ++ B).length) (llN (A ++ B) none) (llZ none (A ++ B)) it A.length lr (llN B none) (by have h9 := hl8; simp only [List.length_append, List.length_cons, List.length_nil] at h9 ⊢; omega) (by have h9 := hl8; simp only [List.length_append, List.length_cons, List.length_nil] at h9 ⊢; omega) hL_2 hL_1) ⟨rfl, rfl⟩ ⟨(Nat.le_of_ble_eq_true rfl), (Nat.le_of_ble_eq_true rfl)⟩ rfl (Nat.le_of_ble_eq_true rfl) dX1_disturbed_11 rfl ⟨(Nat.le_of_ble_eq_true rfl), (Nat.le_of_ble_eq_true rfl)⟩) 16 rfl 5 (Nat.le_of_ble_eq_true rfl) ?_
      refine g_if_eq hC dX1_disturbed_16 56 rfl 19 rfl (fun c_12 => ?_) (fun c_12 => ?_)
      · replace c_12 := bId_0 c_12
        obtain rfl : B = [] := by cases B with | nil => rfl | cons e B' => exact absurd (show A.length < (A ++ e :: B').length by simp) c_12
        refine g_iload_n hC dX1_disturbed_56 1 rfl 57 rfl ?_
        exact g_iret (v := sv) hC (fun k9 hk9 => ⟨mc, (by rw [← hcs]; rfl), (by rw [hL_1, ← hdl]; simp only [dLeft, List.filter_nil, List.append_nil]), (by have h9 := hLp_0; simp only [List.append_nil] at h9; rw [← hdl]; simp only [dLeft, List.filter_nil, List.append_nil]; exact h9), hLF, (by first | exact Nat.le_zero.mp hk9 | omega)⟩) dX1_disturbed_57 (Nat.le_of_ble_eq_true rfl) (Nat.le_of_ble_eq_true rfl)
      · replace c_12 := bId_1 c_12
        obtain ⟨e9, B9, rfl⟩ : ∃ e B', B = e :: B' := by cases B with | nil => exact absurd (show A.length < A.length by simpa using c_12) (Nat.lt_irrefl _) | cons e B' => exact ⟨e, B', rfl⟩
        have hR13 : ML bd = some ((ta, 102), .inr (17, [.int mc, .int (nI ((A ++ e9 :: B9).length)), va_rf (llN (A ++ e9 :: B9) none), va_rf (llZ none (A ++ e9 :: B9))])) := hL_1
        have hR14 : ML it = some ((9, 0), .inr (19, [va_rf lr, va_rf (llN (e9 :: B9) none), .int (nI A.length), .int mc, .ref bd])) := hL_2
        have hR15 : lls ML (ta, 103) (A ++ e9 :: B9) := hLp_0
        have hem : e9 ∈ D := hB e9 (List.mem_cons_self ..)
        have hR16 : ML e9.2.1 = some ((0, 3), .inr (10, [.int e9.2.2.1, .int e9.2.2.2])) := (hLp_1 e9 hem)
        refine g_aload_n hC dX1_disturbed_19 2 rfl gRef_r 20 rfl ?_
        refine g_callFq (g_F (n := 0) (As := []) (rest := []) hC ⟨by decide +kernel, q1706, q1708, q152, q1710, by decide +kernel⟩ q1963 (gOf.of hC.K cI19 hR14) (hC.at cI19) (met_LLi_next l G ML bd (ta, 102) (ta, 103) mc A e9 B9 it lr (by have h9 := hl8; simp only [List.length_append, List.length_cons, List.length_nil] at h9 ⊢; omega) hR14 hR13 hR15) ⟨rfl, rfl⟩ ⟨(Nat.le_of_ble_eq_true rfl), (Nat.le_of_ble_eq_true rfl)⟩ rfl (Nat.le_of_ble_eq_true rfl) dX1_disturbed_20 rfl ⟨(Nat.le_of_ble_eq_true rfl), (Nat.le_of_ble_eq_true rfl)⟩) 1 (Nat.le_of_ble_eq_true rfl) 5 (Nat.le_of_ble_eq_true rfl) 25 rfl (fun r20 M17 k18 hp19 => ?_)
        obtain ⟨rfl, hc21, hF22, hk23⟩ := hp19
        refine g_castS hC (hC.at cI10) (gOf.of hC.K cI10 (hF22 _ _ _ hR16 (gno (gne_c hR16 hR14 (by decide)) gno0))) q1964 dX1_disturbed_25 28 rfl ?_
        refine g_astore_n hC dX1_disturbed_28 rfl gRef_r (Nat.le_of_ble_eq_true rfl) [(3, .ref e9.2.1), (0, .ref of), (1, .int sv), (2, .ref it)] rfl 29 rfl ?_
        refine g_aload_n hC dX1_disturbed_29 0 rfl gRef_r 30 rfl ?_
        refine g_getN (v := .int e9.2.2.2) hC cI10 (hF22 _ _ _ hR16 (gno (gne_c hR16 hR14 (by decide)) gno0)) 1 (Nat.le_of_ble_eq_true rfl) q1767 rfl dX1_disturbed_30 33 rfl ?_
        refine g_aload_n hC dX1_disturbed_33 1 rfl gRef_r 34 rfl ?_
        refine g_get (v := .int bt) hC cI1 (hF22 _ _ _ hL_0 (gno (gne_c hL_0 hR14 (by decide)) gno0)) 3 (Nat.le_of_ble_eq_true rfl) q475 rfl dX1_disturbed_34 37 rfl ?_
        refine g_icmp_ne hC dX1_disturbed_37 53 rfl 40 rfl (fun c_24 => ?_) (fun c_24 => ?_)
        · have eAB : A ++ e9 :: B9 = (A ++ [e9]) ++ B9 := by simp
          have hR25 : M17 bd = some ((ta, 102), .inr (17, [.int mc, .int (nI (((A ++ [e9]) ++ B9).length)), va_rf (llN ((A ++ [e9]) ++ B9) none), va_rf (llZ none ((A ++ [e9]) ++ B9))])) := (by rw [← eAB]; exact (hF22 _ _ _ hR13 (gno (gne_c hR13 hR14 (by decide)) gno0)))
          have hR26 : M17 it = some ((9, 0), .inr (19, [.ref e9.1, va_rf (llN B9 none), .int (nI (A ++ [e9]).length), .int mc, .ref bd])) := (by rw [List.length_append]; exact hc21)
          have hR27 : lls M17 (ta, 103) ((A ++ [e9]) ++ B9) := (eAB ▸ (lls.fr hR15 (gFr.refl.trf hF22 (fun b t e hb hn => (gno (gne_t (gFr.refl b t e hb hn) hR14 (fun q => hn (by rw [q]; exact (show (fun t => ¬ (tgE (ta, 103).1 (ta, 103).2) t) (9, 0) by (try simp only [ndT, tgE, gT, tgR, ndT9, ndW, tg0, Prod.mk.injEq, true_and, and_true, cpyT]); first | done | omega | (simp; done))))) gno0)))))
          refine g_goto hC dX1_disturbed_53 10 rfl ?_
          refine gJ.sub (M' := M17) [1, 2, 3] rfl ?_
          exact ih (A ++ [e9]) B9 sv (some e9.1) it mc M17 (by simp only [List.length_append, List.length_cons, List.length_nil] at hl8 ⊢; omega) (by rw [← hcs]; simp only [cSet, if_neg c_24]) (by rw [← hdl]; unfold dLeft; rw [List.filter_cons_of_pos (by simp [c_24]), List.append_assoc]; rfl) (fun e he => hB e (List.mem_cons_of_mem _ he)) (by simp only [List.length_cons] at hmu; omega) (hF22 _ _ _ hL_0 (gno (gne_c hL_0 hR14 (by decide)) gno0)) hR25 hR26 hR27 (dss.fr hLp_1 (gFr.refl.trf hF22 (fun b t e hb hn => (gno (gne_t (gFr.refl b t e hb hn) hR14 (fun q => hn (by rw [q]; exact (show (fun t => ¬ (tgE 0 3) t) (9, 0) by (try simp only [ndT, tgE, gT, tgR, ndT9, ndW, tg0, Prod.mk.injEq, true_and, and_true, cpyT]); first | done | omega | (simp; done))))) gno0)))) (hLF.trans (gFr.refl.trf hF22 (fun b t e hb hn => (gno (gne_t (gFr.refl b t e hb hn) hR14 (fun q => hn (by rw [q]; exact (show (fun t => (tgE ta 102 t ∨ tgE ta 103 t) ∨ t.1 = 9) (9, 0) by (try simp only [ndT, tgE, gT, tgR, ndT9, ndW, tg0, Prod.mk.injEq, true_and, and_true, cpyT]); first | done | omega | (simp; done))))) gno0))))
        · refine g_iload_n hC dX1_disturbed_40 2 rfl 41 rfl ?_
          refine g_aload_n hC dX1_disturbed_41 0 rfl gRef_r 42 rfl ?_
          refine g_getN (v := .int e9.2.2.1) hC cI10 (hF22 _ _ _ hR16 (gno (gne_c hR16 hR14 (by decide)) gno0)) 0 (Nat.le_of_ble_eq_true rfl) q1765 rfl dX1_disturbed_42 45 rfl ?_
          refine g_ior hC dX1_disturbed_45 46 rfl ?_
          refine g_istore_n hC dX1_disturbed_46 rfl (Nat.le_of_ble_eq_true rfl) [(1, .int (sv ||| e9.2.2.1)), (3, .ref e9.2.1), (0, .ref of), (2, .ref it)] rfl 47 rfl ?_
          refine g_aload_n hC dX1_disturbed_47 3 rfl gRef_r 48 rfl ?_
          refine g_callFv (g_F (n := 0) (As := []) (rest := []) hC ⟨by decide +kernel, q2064, q2066, q152, q2068, by decide +kernel⟩ q1966 (gOf.of hC.K cI19 hc21) (hC.at cI19) (met_LLi_remove l G M17 bd (ta, 102) (ta, 103) mc A e9 B9 it (by have h9 := hl8; simp only [List.length_append, List.length_cons, List.length_nil] at h9 ⊢; omega) hc21 (hF22 _ _ _ hR13 (gno (gne_c hR13 hR14 (by decide)) gno0)) (lls.fr hR15 (gFr.refl.trf hF22 (fun b t e hb hn => (gno (gne_t (gFr.refl b t e hb hn) hR14 (fun q => hn (by rw [q]; exact (show (fun t => ¬ (tgE (ta, 103).1 (ta, 103).2) t) (9, 0) by (try simp only [ndT, tgE, gT, tgR, ndT9, ndW, tg0, Prod.mk.injEq, true_and, and_true, cpyT]); first | done | omega | (simp; done))))) gno0))))) ⟨rfl, rfl⟩ ⟨(Nat.le_of_ble_eq_true rfl), (Nat.le_of_ble_eq_true rfl)⟩ rfl (Nat.le_of_ble_eq_true rfl) dX1_disturbed_48 rfl ⟨(Nat.le_of_ble_eq_true rfl), (Nat.le_of_ble_eq_true rfl)⟩) 1 (Nat.le_of_ble_eq_true rfl) 5 (Nat.le_of_ble_eq_true rfl) 53 rfl (fun M28 k29 hp30 => ?_)
          obtain ⟨hc32, hc33, hpd34, hF35, hk36⟩ := hp30
          refine g_goto hC dX1_disturbed_53 10 rfl ?_
          refine gJ.sub (M' := M28) [2, 0, 3] rfl ?_
          exact ih A B9 (sv ||| e9.2.2.1) none it (mc + 1) M28 (by simp only [List.length_append, List.length_cons, List.length_nil] at hl8 ⊢; omega) (by rw [← hcs]; simp only [cSet, if_pos c_24]) (by rw [← hdl]; unfold dLeft; rw [List.filter_cons_of_neg (by simp [c_24])]) (fun e he => hB e (List.mem_cons_of_mem _ he)) (by simp only [List.length_cons] at hmu; omega) (hF35 _ _ _ (hF22 _ _ _ hL_0 (gno (gne_c hL_0 hR14 (by decide)) gno0)) (show ¬ (fun t => tgE (ta, 102).1 (ta, 102).2 t ∨ tgE (ta, 103).1 (ta, 103).2 t ∨ tgE 9 0 t) (ta, 100) by (try simp only [ndT, tgE, gT, tgR, ndT9, ndW, tg0, Prod.mk.injEq, true_and, and_true, cpyT]); first | done | omega | (simp; done) | simp_all)) hc32 hc33 hpd34 (dss.fr hLp_1 ((gFr.refl.trf hF22 (fun b t e hb hn => (gno (gne_t (gFr.refl b t e hb hn) hR14 (fun q => hn (by rw [q]; exact (show (fun t => ¬ (tgE 0 3) t) (9, 0) by (try simp only [ndT, tgE, gT, tgR, ndT9, ndW, tg0, Prod.mk.injEq, true_and, and_true, cpyT]); first | done | omega | (simp; done))))) gno0))).trans (hF35.mono (fun b t h => by obtain ⟨u9, v9⟩ := t; revert h; (try simp only [ndT, tgE, gT, tgR, ndT9, ndW, tg0, Prod.mk.injEq, true_and, and_true, cpyT]); first | done | omega | (simp; done) | (intro h; simp_all; done))))) (hLF.trans ((gFr.refl.trf hF22 (fun b t e hb hn => (gno (gne_t (gFr.refl b t e hb hn) hR14 (fun q => hn (by rw [q]; exact (show (fun t => (tgE ta 102 t ∨ tgE ta 103 t) ∨ t.1 = 9) (9, 0) by (try simp only [ndT, tgE, gT, tgR, ndT9, ndW, tg0, Prod.mk.injEq, true_and, and_true, cpyT]); first | done | omega | (simp; done))))) gno0))).trans (hF35.mono (fun b t h => by obtain ⟨u9, v9⟩ := t; revert h; (try simp only [ndT, tgE, gT, tgR, ndT9, ndW, tg0, Prod.mk.injEq, true_and, and_true, cpyT]); first | done | omega | (simp; done) | (intro h; simp_all; done)))))
  refine gJ.sub (M' := M1) [2, 1, 0] rfl ?_
  exact loop10 _ ([] : List dsE) D 0 none i9_5 mc M1 hD8 rfl rfl (fun e he => he) (Nat.lt_succ_self _) (hF7 _ _ _ hM_0 gno0) hR9 hR10 hR11 (dss.fr hP_1 (gFr.refl.trf hF7 (fun b t e hb hn => gno0))) (gFr.refl.trf hF7 (fun b t e hb hn => gno0))
