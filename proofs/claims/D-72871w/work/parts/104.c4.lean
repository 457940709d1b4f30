/-! LinkedList of disturbances (at most eight) -/
set_option maxRecDepth 100000
theorem ll_cc {α : Type} (D : List α) : D = [] ∨ ∃ A z, D = A ++ [z] := by
  rcases List.eq_nil_or_concat D with h | ⟨A, z, h⟩
  · exact Or.inl h
  · exact Or.inr ⟨A, z, by rw [h, List.concat_eq_append]⟩
abbrev dsE := Nat × Nat × Int32 × Int32
def dss (M : gM) (D : List dsE) : Prop := ∀ e ∈ D, M e.2.1 = some ((0, 3), .inr (10, [.int e.2.2.1, .int e.2.2.2]))
theorem dss.fr {M M' : gM} {D : List dsE} (h : dss M D) (hF : gFr (gT (fun t => ¬ tgE 0 3 t)) M M') : dss M' D := fun e he => hF _ _ _ (h e he) (fun q => q ⟨rfl, rfl⟩)
def llN (D : List dsE) (q : Option Nat) : Option Nat := match D with | [] => q | e :: _ => some e.1
def llZ (p : Option Nat) : List dsE → Option Nat
  | [] => p
  | e :: D => llZ (some e.1) D
def llS (M : gM) (t : Nat × Nat) : Option Nat → List dsE → Option Nat → Prop
  | _, [], _ => True
  | p, e :: D, q => M e.1 = some (t, .inr (18, [.ref e.2.1, va_rf (llN D q), va_rf p])) ∧ llS M t (some e.1) D q
def lls (M : gM) (t : Nat × Nat) (D : List dsE) : Prop := llS M t none D none ∧ (D.map Prod.fst).Nodup
theorem llS.of {M M' : gM} {t : Nat × Nat} {q : Option Nat} : (D : List dsE) → (p : Option Nat) → llS M t p D q → (∀ e ∈ D, ∀ x, M e.1 = some (t, x) → M' e.1 = some (t, x)) → llS M' t p D q
  | [], _, _, _ => trivial
  | e :: D, p, h, hF => ⟨hF e (by simp) _ h.1, llS.of D (some e.1) h.2 (fun d hd => hF d (by simp [hd]))⟩
theorem llS.app {M : gM} {t : Nat × Nat} {q : Option Nat} {B : List dsE} : (A : List dsE) → (p : Option Nat) → (llS M t p (A ++ B) q ↔ llS M t p A (llN B q) ∧ llS M t (llZ p A) B q)
  | [], _ => ⟨fun h => ⟨trivial, h⟩, fun h => h.2⟩
  | e :: A, p => by
    have hN : llN (A ++ B) q = llN A (llN B q) := by cases A <;> rfl
    simp only [List.cons_append, llS, llZ]
    rw [llS.app A (some e.1), hN]
    exact ⟨fun h => ⟨⟨h.1, h.2.1⟩, h.2.2⟩, fun h => ⟨h.1.1, h.1.2, h.2⟩⟩
theorem llZ_app {A : List dsE} {z : dsE} : (p : Option Nat) → llZ p (A ++ [z]) = some z.1 := by
  induction A with
  | nil => intro p; rfl
  | cons e A ih => intro p; exact ih _
theorem lls.fr {M M' : gM} {t : Nat × Nat} {D : List dsE} (h : lls M t D) (hF : gFr (gT (fun t' => ¬ tgE t.1 t.2 t')) M M') : lls M' t D :=
  ⟨llS.of D none h.1 (fun e _ x hx => hF _ _ _ hx (fun q => q ⟨rfl, rfl⟩)), h.2⟩
set_option maxHeartbeats 4000000 in
theorem met_LL_J1_init (l : Launch) (G : gG) (M : gM) (b : Nat) (t0 : Nat × Nat)  (hM_0 : M b = some (t0, .inr (17, [.int 0, .int 0, .null, .null]))) : Met l yJ1_init (ws_ yJ1_init cJ1_init 1 none) ({ frames := 2, cells := 0, slots := 0, locals := 32 }) (gPc G [.ref b] M) (gQv G (fun M9 k9 => M9 b = some (t0, .inr (17, [.int 0, .int 0, .null, .null])) ∧ gFr (gL [b]) M M9 ∧ k9 = 0)) 0 0 (gA G) := by
  refine gMet [(0, .ref b)] (by decide) (Nat.le_of_ble_eq_true rfl) rfl ?_
  intro p e s m below meth c hC
  refine g_aload_n hC dJ1_init_0 0 rfl gRef_r 1 rfl ?_
  refine g_callvP (g_I (As := []) (rest := []) hC miJ0_init q197 (met_J0_init l G M b) ⟨rfl, rfl⟩ ⟨(Nat.le_of_ble_eq_true rfl), (Nat.le_of_ble_eq_true rfl)⟩ rfl (Nat.le_of_ble_eq_true rfl) dJ1_init_1 rfl ⟨(Nat.le_of_ble_eq_true rfl), (Nat.le_of_ble_eq_true rfl)⟩) 4 rfl 0 (Nat.le_of_ble_eq_true rfl) ?_
  refine g_aload_n hC dJ1_init_4 0 rfl gRef_r 5 rfl ?_
  refine g_iconst hC dJ1_init_5 ki_0 6 rfl ?_
  refine g_put hC cI17 hM_0 0 (Nat.le_of_ble_eq_true rfl) q205 rfl rfl rfl (Nat.le_of_ble_eq_true rfl) dJ1_init_6 (fs' := [.int 0, .int 0, .null, .null]) rfl 9 rfl (fun M1 hU2 => ?_)
  exact g_vret hC (fun k9 hk9 => ⟨hU2.1, (gFr.refl.up hU2 hM_0 (by simp)), (by first | exact Nat.le_zero.mp hk9 | omega)⟩) dJ1_init_9 (Nat.le_of_ble_eq_true rfl) (Nat.le_of_ble_eq_true rfl)
set_option maxHeartbeats 4000000 in
theorem met_LL_J2_init (l : Launch) (G : gG) (M : gM) (b : Nat) (t0 : Nat × Nat)  (hM_0 : M b = some (t0, .inr (17, [.int 0, .int 0, .null, .null]))) : Met l yJ2_init (ws_ yJ2_init cJ2_init 1 none) ({ frames := 3, cells := 0, slots := 0, locals := 52 }) (gPc G [.ref b] M) (gQv G (fun M9 k9 => M9 b = some (t0, .inr (17, [.int 0, .int 0, .null, .null])) ∧ gFr (gL [b]) M M9 ∧ k9 = 0)) 0 0 (gA G) := by
  refine gMet [(0, .ref b)] (by decide) (Nat.le_of_ble_eq_true rfl) rfl ?_
  intro p e s m below meth c hC
  refine g_aload_n hC dJ2_init_0 0 rfl gRef_r 1 rfl ?_
  refine g_callv (g_I (As := []) (rest := []) hC miJ1_init q194 (met_LL_J1_init l G M b t0 hM_0) ⟨rfl, rfl⟩ ⟨(Nat.le_of_ble_eq_true rfl), (Nat.le_of_ble_eq_true rfl)⟩ rfl (Nat.le_of_ble_eq_true rfl) dJ2_init_1 rfl ⟨(Nat.le_of_ble_eq_true rfl), (Nat.le_of_ble_eq_true rfl)⟩) 0 (Nat.le_of_ble_eq_true rfl) 0 (Nat.le_of_ble_eq_true rfl) 4 rfl (fun M1 k2 hp3 => ?_)
  obtain ⟨hc5, hF6, hk7⟩ := hp3
  exact g_vret hC (fun k9 hk9 => ⟨hc5, (gFr.refl.trans (hF6.mono (by intro b t hb; simp at hb ⊢; first | done | (rcases hb with rfl | rfl | rfl | rfl <;> simp) | (simp [hb]; done)))), (by first | exact Nat.le_zero.mp hk9 | omega)⟩) dJ2_init_4 (Nat.le_of_ble_eq_true rfl) (Nat.le_of_ble_eq_true rfl)
set_option maxHeartbeats 4000000 in
theorem met_LL_J3_init (l : Launch) (G : gG) (M : gM) (b : Nat) (t0 : Nat × Nat)  (hM_0 : M b = some (t0, .inr (17, [.int 0, .int 0, .null, .null]))) : Met l yJ3_init (ws_ yJ3_init cJ3_init 1 none) ({ frames := 4, cells := 0, slots := 0, locals := 72 }) (gPc G [.ref b] M) (gQv G (fun M9 k9 => M9 b = some (t0, .inr (17, [.int 0, .int 0, .null, .null])) ∧ gFr (gL [b]) M M9 ∧ k9 = 0)) 0 0 (gA G) := by
  refine gMet [(0, .ref b)] (by decide) (Nat.le_of_ble_eq_true rfl) rfl ?_
  intro p e s m below meth c hC
  refine g_aload_n hC dJ3_init_0 0 rfl gRef_r 1 rfl ?_
  refine g_callv (g_I (As := []) (rest := []) hC miJ2_init q191 (met_LL_J2_init l G M b t0 hM_0) ⟨rfl, rfl⟩ ⟨(Nat.le_of_ble_eq_true rfl), (Nat.le_of_ble_eq_true rfl)⟩ rfl (Nat.le_of_ble_eq_true rfl) dJ3_init_1 rfl ⟨(Nat.le_of_ble_eq_true rfl), (Nat.le_of_ble_eq_true rfl)⟩) 0 (Nat.le_of_ble_eq_true rfl) 0 (Nat.le_of_ble_eq_true rfl) 4 rfl (fun M1 k2 hp3 => ?_)
  obtain ⟨hc5, hF6, hk7⟩ := hp3
  refine g_aload_n hC dJ3_init_4 0 rfl gRef_r 5 rfl ?_
  refine g_iconst hC dJ3_init_5 ki_0 6 rfl ?_
  refine g_put hC cI17 hc5 1 (Nat.le_of_ble_eq_true rfl) q201 rfl rfl rfl (Nat.le_of_ble_eq_true rfl) dJ3_init_6 (fs' := [.int 0, .int 0, .null, .null]) rfl 9 rfl (fun M8 hU9 => ?_)
  exact g_vret hC (fun k9 hk9 => ⟨hU9.1, ((gFr.refl.trans (hF6.mono (by intro b t hb; simp at hb ⊢; first | done | (rcases hb with rfl | rfl | rfl | rfl <;> simp) | (simp [hb]; done)))).up hU9 hc5 (by simp)), (by first | exact Nat.le_zero.mp hk9 | omega)⟩) dJ3_init_9 (Nat.le_of_ble_eq_true rfl) (Nat.le_of_ble_eq_true rfl)
set_option maxHeartbeats 4000000 in
theorem met_LLn_init (l : Launch) (G : gG) (M : gM) (a : Nat) (t1 : Nat × Nat) (it : Nat) (pz : Option Nat)  (hM_0 : M a = some (t1, .inr (18, [.null, .null, .null]))) : Met l yJ30_init (ws_ yJ30_init cJ30_init 4 none) ({ frames := 1, cells := 0, slots := 0, locals := 12 }) (gPc G [.ref a, va_rf pz, .ref it, .null] M) (gQv G (fun M9 k9 => M9 a = some (t1, .inr (18, [.ref it, .null, va_rf pz])) ∧ gFr (gL [a]) M M9 ∧ k9 = 0)) 0 0 (gA G) := by
  refine gMet [(0, .ref a), (1, va_rf pz), (2, .ref it), (3, .null)] (by decide) (by cases pz <;> exact Nat.le_of_ble_eq_true rfl) (by cases pz <;> rfl) ?_
  intro p e s m below meth c hC
  refine g_aload_n hC dJ30_init_0 0 rfl gRef_r 1 rfl ?_
  refine g_objInit hC q1786 q176 q177 dJ30_init_1 (Nat.le_of_ble_eq_true rfl) (Nat.le_of_ble_eq_true rfl) 4 rfl ?_
  refine g_aload_n hC dJ30_init_4 0 rfl gRef_r 5 rfl ?_
  refine g_aload_n hC dJ30_init_5 2 rfl gRef_r 6 rfl ?_
  refine g_put hC cI18 hM_0 0 (Nat.le_of_ble_eq_true rfl) q1787 rfl rfl rfl (Nat.le_of_ble_eq_true rfl) dJ30_init_6 (fs' := [.ref it, .null, .null]) rfl 9 rfl (fun M1 hU2 => ?_)
  refine g_aload_n hC dJ30_init_9 0 rfl gRef_r 10 rfl ?_
  refine g_aload_n hC dJ30_init_10 3 rfl gRef_n 11 rfl ?_
  refine g_put hC cI18 hU2.1 1 (Nat.le_of_ble_eq_true rfl) q1790 rfl rfl rfl (Nat.le_of_ble_eq_true rfl) dJ30_init_11 (fs' := [.ref it, .null, .null]) rfl 14 rfl (fun M3 hU4 => ?_)
  refine g_aload_n hC dJ30_init_14 0 rfl gRef_r 15 rfl ?_
  refine g_aload_n hC dJ30_init_15 1 rfl gRef_q 16 rfl ?_
  refine g_put hC cI18 hU4.1 2 (Nat.le_of_ble_eq_true rfl) q1793 rfl gq_n gq_f (Nat.le_of_ble_eq_true rfl) dJ30_init_16 (fs' := [.ref it, .null, va_rf pz]) rfl 19 rfl (fun M5 hU6 => ?_)
  exact g_vret hC (fun k9 hk9 => ⟨hU6.1, (((gFr.refl.up hU2 hM_0 (by simp)).up hU4 hU2.1 (by simp)).up hU6 hU4.1 (by simp)), (by first | exact Nat.le_zero.mp hk9 | omega)⟩) dJ30_init_19 (Nat.le_of_ble_eq_true rfl) (Nat.le_of_ble_eq_true rfl)
set_option maxHeartbeats 4000000 in
theorem met_LL_linkLast_0 (l : Launch) (G : gG) (M : gM) (b : Nat) (t0 : Nat × Nat) (t1 : Nat × Nat) (mc : Int32) (it : Nat)  (hM_0 : M b = some (t0, .inr (17, [.int mc, .int (nI 0), .null, .null]))) : Met l yJ3_linkLast (ws_ yJ3_linkLast cJ3_linkLast 4 none) ({ frames := 2, cells := 1, slots := 3, locals := 60 }) (gPc G [.ref b, .ref it] M) (gQv G (fun M9 k9 => ∃ a : Nat, M9 b = some (t0, .inr (17, [.int (mc + 1), .int 1, .ref a, .ref a])) ∧ M9 a = some (t1, .inr (18, [.ref it, .null, .null])) ∧ gFr (gL [b]) M M9 ∧ M a = none ∧ k9 ≤ 1)) 1 3 (gA G) := by
  refine gMet [(0, .ref b), (1, .ref it)] (by decide) (Nat.le_of_ble_eq_true rfl) rfl ?_
  intro p e s m below meth c hC
  refine g_aload_n hC dJ3_linkLast_0 0 rfl gRef_r 1 rfl ?_
  refine g_get (v := .null) hC cI17 hM_0 3 (Nat.le_of_ble_eq_true rfl) q204 rfl dJ3_linkLast_1 4 rfl ?_
  refine g_astore_n hC dJ3_linkLast_4 rfl gRef_n (Nat.le_of_ble_eq_true rfl) [(2, .null), (0, .ref b), (1, .ref it)] rfl 5 rfl ?_
  refine g_new hC cI18 q1781 q1782 q147 df18 t1 (Nat.le_of_ble_eq_true rfl) (Nat.le_of_ble_eq_true rfl) 1 (Nat.le_of_ble_eq_true rfl) 3 (Nat.le_of_ble_eq_true rfl) dJ3_linkLast_5 8 rfl (fun a1 M2 hN3 => ?_)
  refine g_dup hC dJ3_linkLast_8 rfl 9 rfl ?_
  refine g_aload_n hC dJ3_linkLast_9 0 rfl gRef_n 10 rfl ?_
  refine g_aload_n hC dJ3_linkLast_10 2 rfl gRef_r 11 rfl ?_
  refine g_null hC dJ3_linkLast_11 12 rfl ?_
  refine g_callv (g_I (As := [.null, .ref it, .null]) (rest := [.ref a1]) hC miJ30_init q1783 (met_LLn_init l G M2 a1 t1 it none hN3.2.1) ⟨rfl, rfl⟩ ⟨(Nat.le_of_ble_eq_true rfl), (Nat.le_of_ble_eq_true rfl)⟩ rfl (Nat.le_of_ble_eq_true rfl) dJ3_linkLast_12 rfl ⟨(Nat.le_of_ble_eq_true rfl), (Nat.le_of_ble_eq_true rfl)⟩) 1 (Nat.le_of_ble_eq_true rfl) 3 (Nat.le_of_ble_eq_true rfl) 15 rfl (fun M4 k5 hp6 => ?_)
  obtain ⟨hc8, hF9, hk10⟩ := hp6
  refine g_astore_n hC dJ3_linkLast_15 rfl gRef_r (Nat.le_of_ble_eq_true rfl) [(3, .ref a1), (2, .null), (0, .ref b), (1, .ref it)] rfl 16 rfl ?_
  refine g_aload_n hC dJ3_linkLast_16 2 rfl gRef_r 17 rfl ?_
  refine g_aload_n hC dJ3_linkLast_17 0 rfl gRef_r 18 rfl ?_
  refine g_put hC cI17 (hF9 _ _ _ (hN3.n hM_0) (gno (hN3.ne hM_0) gno0)) 3 (Nat.le_of_ble_eq_true rfl) q204 rfl rfl rfl (Nat.le_of_ble_eq_true rfl) dJ3_linkLast_18 (fs' := [.int mc, .int (nI 0), .null, .ref a1]) rfl 21 rfl (fun M11 hU12 => ?_)
  have hH13 := (hU12.n (Ne.symm (hN3.ne hM_0)) hc8)
  refine g_aload_n hC dJ3_linkLast_21 1 rfl gRef_n 22 rfl ?_
  refine g_ifnonnull (r := none) hC dJ3_linkLast_22 33 rfl 25 rfl (fun _ q => by cases q) (fun _ => ?_)
  refine g_aload_n hC dJ3_linkLast_25 2 rfl gRef_r 26 rfl ?_
  refine g_aload_n hC dJ3_linkLast_26 0 rfl gRef_r 27 rfl ?_
  refine g_put hC cI17 hU12.1 2 (Nat.le_of_ble_eq_true rfl) q203 rfl rfl rfl (Nat.le_of_ble_eq_true rfl) dJ3_linkLast_27 (fs' := [.int mc, .int (nI 0), .ref a1, .ref a1]) rfl 30 rfl (fun M15 hU16 => ?_)
  refine g_goto hC dJ3_linkLast_30 38 rfl ?_
  refine g_aload_n hC dJ3_linkLast_38 2 rfl gRef_r 39 rfl ?_
  refine g_dup hC dJ3_linkLast_39 rfl 40 rfl ?_
  refine g_get (v := .int (nI 0)) hC cI17 hU16.1 1 (Nat.le_of_ble_eq_true rfl) q201 rfl dJ3_linkLast_40 43 rfl ?_
  refine g_iconst hC dJ3_linkLast_43 ki_1 44 rfl ?_
  refine g_iadd hC dJ3_linkLast_44 45 rfl ?_
  refine g_topi (y := 1) (nI_a (a := 0) (b := 1) (c := 1) (by omega)) ?_
  refine g_put hC cI17 hU16.1 1 (Nat.le_of_ble_eq_true rfl) q201 rfl rfl rfl (Nat.le_of_ble_eq_true rfl) dJ3_linkLast_45 (fs' := [.int mc, .int 1, .ref a1, .ref a1]) rfl 48 rfl (fun M17 hU18 => ?_)
  refine g_aload_n hC dJ3_linkLast_48 2 rfl gRef_r 49 rfl ?_
  refine g_dup hC dJ3_linkLast_49 rfl 50 rfl ?_
  refine g_getU (v := .int mc) hC cI17 hU18.1 0 (Nat.le_of_ble_eq_true rfl) q211 q207 rfl dJ3_linkLast_50 53 rfl ?_
  refine g_iconst hC dJ3_linkLast_53 ki_1 54 rfl ?_
  refine g_iadd hC dJ3_linkLast_54 55 rfl ?_
  refine g_putU hC cI17 hU18.1 0 (Nat.le_of_ble_eq_true rfl) q211 q207 rfl rfl rfl (Nat.le_of_ble_eq_true rfl) dJ3_linkLast_55 (fs' := [.int (mc + 1), .int 1, .ref a1, .ref a1]) rfl 58 rfl (fun M19 hU20 => ?_)
  exact g_vret hC (fun k9 hk9 => ⟨a1, hU20.1, (hU20.n (Ne.symm (hN3.ne hM_0)) (hU18.n (Ne.symm (hN3.ne hM_0)) (hU16.n (Ne.symm (hN3.ne hM_0)) hH13))), ((((((gFr.refl.nw hN3).trf hF9 (fun b t e hb hn => (gno (hN3.ne (gFr.refl b t e hb hn)) gno0))).up hU12 (hF9 _ _ _ (hN3.n hM_0) (gno (hN3.ne hM_0) gno0)) (by simp)).up hU16 hU12.1 (by simp)).up hU18 hU16.1 (by simp)).up hU20 hU18.1 (by simp)), hN3.1, (by first | exact Nat.le_zero.mp hk9 | omega)⟩) dJ3_linkLast_58 (Nat.le_of_ble_eq_true rfl) (Nat.le_of_ble_eq_true rfl)
set_option maxHeartbeats 4000000 in
theorem met_LL_linkLast_1 (l : Launch) (G : gG) (M : gM) (b : Nat) (t0 : Nat × Nat) (t1 : Nat × Nat) (mc : Int32) (n : Nat) (it : Nat) (fi : Option Nat) (z : Nat) (iz : Nat) (pz : Option Nat)  (hM_0 : M b = some (t0, .inr (17, [.int mc, .int (nI n), va_rf fi, .ref z]))) (hM_1 : M z = some (t1, .inr (18, [.ref iz, .null, va_rf pz]))) : Met l yJ3_linkLast (ws_ yJ3_linkLast cJ3_linkLast 4 none) ({ frames := 2, cells := 1, slots := 3, locals := 60 }) (gPc G [.ref b, .ref it] M) (gQv G (fun M9 k9 => ∃ a : Nat, M9 b = some (t0, .inr (17, [.int (mc + 1), .int (nI (n + 1)), va_rf fi, .ref a])) ∧ M9 a = some (t1, .inr (18, [.ref it, .null, .ref z])) ∧ M9 z = some (t1, .inr (18, [.ref iz, .ref a, va_rf pz])) ∧ gFr (gL [b, z]) M M9 ∧ M a = none ∧ k9 ≤ 1)) 1 3 (gA G) := by
  refine gMet [(0, .ref b), (1, .ref it)] (by decide) (Nat.le_of_ble_eq_true rfl) rfl ?_
  intro p e s m below meth c hC
  refine g_aload_n hC dJ3_linkLast_0 0 rfl gRef_r 1 rfl ?_
  refine g_get (v := .ref z) hC cI17 hM_0 3 (Nat.le_of_ble_eq_true rfl) q204 rfl dJ3_linkLast_1 4 rfl ?_
  refine g_astore_n hC dJ3_linkLast_4 rfl gRef_r (Nat.le_of_ble_eq_true rfl) [(2, .ref z), (0, .ref b), (1, .ref it)] rfl 5 rfl ?_
  refine g_new hC cI18 q1781 q1782 q147 df18 t1 (Nat.le_of_ble_eq_true rfl) (Nat.le_of_ble_eq_true rfl) 1 (Nat.le_of_ble_eq_true rfl) 3 (Nat.le_of_ble_eq_true rfl) dJ3_linkLast_5 8 rfl (fun a1 M2 hN3 => ?_)
  refine g_dup hC dJ3_linkLast_8 rfl 9 rfl ?_
  refine g_aload_n hC dJ3_linkLast_9 0 rfl gRef_r 10 rfl ?_
  refine g_aload_n hC dJ3_linkLast_10 2 rfl gRef_r 11 rfl ?_
  refine g_null hC dJ3_linkLast_11 12 rfl ?_
  refine g_callv (g_I (As := [.ref z, .ref it, .null]) (rest := [.ref a1]) hC miJ30_init q1783 (met_LLn_init l G M2 a1 t1 it (some z) hN3.2.1) ⟨rfl, rfl⟩ ⟨(Nat.le_of_ble_eq_true rfl), (Nat.le_of_ble_eq_true rfl)⟩ rfl (Nat.le_of_ble_eq_true rfl) dJ3_linkLast_12 rfl ⟨(Nat.le_of_ble_eq_true rfl), (Nat.le_of_ble_eq_true rfl)⟩) 1 (Nat.le_of_ble_eq_true rfl) 3 (Nat.le_of_ble_eq_true rfl) 15 rfl (fun M4 k5 hp6 => ?_)
  obtain ⟨hc8, hF9, hk10⟩ := hp6
  refine g_astore_n hC dJ3_linkLast_15 rfl gRef_r (Nat.le_of_ble_eq_true rfl) [(3, .ref a1), (2, .ref z), (0, .ref b), (1, .ref it)] rfl 16 rfl ?_
  refine g_aload_n hC dJ3_linkLast_16 2 rfl gRef_r 17 rfl ?_
  refine g_aload_n hC dJ3_linkLast_17 0 rfl gRef_r 18 rfl ?_
  refine g_put hC cI17 (hF9 _ _ _ (hN3.n hM_0) (gno (hN3.ne hM_0) gno0)) 3 (Nat.le_of_ble_eq_true rfl) q204 rfl rfl rfl (Nat.le_of_ble_eq_true rfl) dJ3_linkLast_18 (fs' := [.int mc, .int (nI n), va_rf fi, .ref a1]) rfl 21 rfl (fun M11 hU12 => ?_)
  have hH13 := (hU12.n (Ne.symm (hN3.ne hM_0)) hc8)
  have hH14 := (hU12.n (gne_c (hF9 _ _ _ (hN3.n hM_1) (gno (hN3.ne hM_1) gno0)) (hF9 _ _ _ (hN3.n hM_0) (gno (hN3.ne hM_0) gno0)) (by decide)) (hF9 _ _ _ (hN3.n hM_1) (gno (hN3.ne hM_1) gno0)))
  refine g_aload_n hC dJ3_linkLast_21 1 rfl gRef_r 22 rfl ?_
  refine g_ifnonnull (r := some z) hC dJ3_linkLast_22 33 rfl 25 rfl (fun _ _ => ?_) (fun q => by cases q)
  refine g_aload_n hC dJ3_linkLast_33 1 rfl gRef_r 34 rfl ?_
  refine g_aload_n hC dJ3_linkLast_34 0 rfl gRef_r 35 rfl ?_
  refine g_put hC cI18 hH14 1 (Nat.le_of_ble_eq_true rfl) q1792 rfl rfl rfl (Nat.le_of_ble_eq_true rfl) dJ3_linkLast_35 (fs' := [.ref iz, .ref a1, va_rf pz]) rfl 38 rfl (fun M16 hU17 => ?_)
  refine g_aload_n hC dJ3_linkLast_38 2 rfl gRef_r 39 rfl ?_
  refine g_dup hC dJ3_linkLast_39 rfl 40 rfl ?_
  refine g_get (v := .int (nI n)) hC cI17 (hU17.n (gne_c hU12.1 hH14 (by decide)) hU12.1) 1 (Nat.le_of_ble_eq_true rfl) q201 rfl dJ3_linkLast_40 43 rfl ?_
  refine g_iconst hC dJ3_linkLast_43 ki_1 44 rfl ?_
  refine g_iadd hC dJ3_linkLast_44 45 rfl ?_
  refine g_topi (y := nI (n + 1)) (nI_a (a := n) (b := 1) (c := (n + 1)) (by omega)) ?_
  refine g_put hC cI17 (hU17.n (gne_c hU12.1 hH14 (by decide)) hU12.1) 1 (Nat.le_of_ble_eq_true rfl) q201 rfl rfl rfl (Nat.le_of_ble_eq_true rfl) dJ3_linkLast_45 (fs' := [.int mc, .int (nI (n + 1)), va_rf fi, .ref a1]) rfl 48 rfl (fun M18 hU19 => ?_)
  refine g_aload_n hC dJ3_linkLast_48 2 rfl gRef_r 49 rfl ?_
  refine g_dup hC dJ3_linkLast_49 rfl 50 rfl ?_
  refine g_getU (v := .int mc) hC cI17 hU19.1 0 (Nat.le_of_ble_eq_true rfl) q211 q207 rfl dJ3_linkLast_50 53 rfl ?_
  refine g_iconst hC dJ3_linkLast_53 ki_1 54 rfl ?_
  refine g_iadd hC dJ3_linkLast_54 55 rfl ?_
  refine g_putU hC cI17 hU19.1 0 (Nat.le_of_ble_eq_true rfl) q211 q207 rfl rfl rfl (Nat.le_of_ble_eq_true rfl) dJ3_linkLast_55 (fs' := [.int (mc + 1), .int (nI (n + 1)), va_rf fi, .ref a1]) rfl 58 rfl (fun M20 hU21 => ?_)
  exact g_vret hC (fun k9 hk9 => ⟨a1, hU21.1, (hU21.n (Ne.symm (hN3.ne hM_0)) (hU19.n (Ne.symm (hN3.ne hM_0)) (hU17.n (Ne.symm (hN3.ne hM_1)) hH13))), (hU21.n (gne_c (hU19.n (gne_c hU17.1 (hU17.n (gne_c hU12.1 hH14 (by decide)) hU12.1) (by decide)) hU17.1) hU19.1 (by decide)) (hU19.n (gne_c hU17.1 (hU17.n (gne_c hU12.1 hH14 (by decide)) hU12.1) (by decide)) hU17.1)), ((((((gFr.refl.nw hN3).trf hF9 (fun b t e hb hn => (gno (hN3.ne (gFr.refl b t e hb hn)) gno0))).up hU12 (hF9 _ _ _ (hN3.n hM_0) (gno (hN3.ne hM_0) gno0)) (by simp)).up hU17 hH14 (by simp)).up hU19 (hU17.n (gne_c hU12.1 hH14 (by decide)) hU12.1) (by simp)).up hU21 hU19.1 (by simp)), hN3.1, (by first | exact Nat.le_zero.mp hk9 | omega)⟩) dJ3_linkLast_58 (Nat.le_of_ble_eq_true rfl) (Nat.le_of_ble_eq_true rfl)
set_option maxHeartbeats 4000000 in
theorem met_LL_addLast_0 (l : Launch) (G : gG) (M : gM) (b : Nat) (t0 : Nat × Nat) (t1 : Nat × Nat) (mc : Int32) (it : Nat)  (hM_0 : M b = some (t0, .inr (17, [.int mc, .int (nI 0), .null, .null]))) : Met l yJ3_addLast (ws_ yJ3_addLast cJ3_addLast 2 none) ({ frames := 3, cells := 1, slots := 3, locals := 90 }) (gPc G [.ref b, .ref it] M) (gQv G (fun M9 k9 => ∃ a : Nat, M9 b = some (t0, .inr (17, [.int (mc + 1), .int 1, .ref a, .ref a])) ∧ M9 a = some (t1, .inr (18, [.ref it, .null, .null])) ∧ gFr (gL [b]) M M9 ∧ M a = none ∧ k9 ≤ 1)) 1 3 (gA G) := by
  refine gMet [(0, .ref b), (1, .ref it)] (by decide) (Nat.le_of_ble_eq_true rfl) rfl ?_
  intro p e s m below meth c hC
  refine g_aload_n hC dJ3_addLast_0 0 rfl gRef_r 1 rfl ?_
  refine g_aload_n hC dJ3_addLast_1 1 rfl gRef_r 2 rfl ?_
  refine g_callv (g_V (As := [.ref it]) (rest := []) hC mvJ3_linkLast q1777 (gOf.of hC.K cI17 hM_0) (met_LL_linkLast_0 l G M b t0 t1 mc it hM_0) ⟨rfl, rfl⟩ ⟨(Nat.le_of_ble_eq_true rfl), (Nat.le_of_ble_eq_true rfl)⟩ rfl (Nat.le_of_ble_eq_true rfl) dJ3_addLast_2 rfl ⟨(Nat.le_of_ble_eq_true rfl), (Nat.le_of_ble_eq_true rfl)⟩) 1 (Nat.le_of_ble_eq_true rfl) 3 (Nat.le_of_ble_eq_true rfl) 5 rfl (fun M1 k2 hp3 => ?_)
  obtain ⟨a_5, hc6, hc7, hF8, hq9, hk10⟩ := hp3
  exact g_vret hC (fun k9 hk9 => ⟨a_5, hc6, hc7, (gFr.refl.trans (hF8.mono (by intro b t hb; simp at hb ⊢; first | done | (rcases hb with rfl | rfl | rfl | rfl <;> simp) | (simp [hb]; done)))), hq9, (by first | exact Nat.le_zero.mp hk9 | omega)⟩) dJ3_addLast_5 (Nat.le_of_ble_eq_true rfl) (Nat.le_of_ble_eq_true rfl)
set_option maxHeartbeats 4000000 in
theorem met_LL_addLast_1 (l : Launch) (G : gG) (M : gM) (b : Nat) (t0 : Nat × Nat) (t1 : Nat × Nat) (mc : Int32) (n : Nat) (it : Nat) (fi : Option Nat) (z : Nat) (iz : Nat) (pz : Option Nat)  (hM_0 : M b = some (t0, .inr (17, [.int mc, .int (nI n), va_rf fi, .ref z]))) (hM_1 : M z = some (t1, .inr (18, [.ref iz, .null, va_rf pz]))) : Met l yJ3_addLast (ws_ yJ3_addLast cJ3_addLast 2 none) ({ frames := 3, cells := 1, slots := 3, locals := 90 }) (gPc G [.ref b, .ref it] M) (gQv G (fun M9 k9 => ∃ a : Nat, M9 b = some (t0, .inr (17, [.int (mc + 1), .int (nI (n + 1)), va_rf fi, .ref a])) ∧ M9 a = some (t1, .inr (18, [.ref it, .null, .ref z])) ∧ M9 z = some (t1, .inr (18, [.ref iz, .ref a, va_rf pz])) ∧ gFr (gL [b, z]) M M9 ∧ M a = none ∧ k9 ≤ 1)) 1 3 (gA G) := by
  refine gMet [(0, .ref b), (1, .ref it)] (by decide) (Nat.le_of_ble_eq_true rfl) rfl ?_
  intro p e s m below meth c hC
  refine g_aload_n hC dJ3_addLast_0 0 rfl gRef_r 1 rfl ?_
  refine g_aload_n hC dJ3_addLast_1 1 rfl gRef_r 2 rfl ?_
  refine g_callv (g_V (As := [.ref it]) (rest := []) hC mvJ3_linkLast q1777 (gOf.of hC.K cI17 hM_0) (met_LL_linkLast_1 l G M b t0 t1 mc n it fi z iz pz hM_0 hM_1) ⟨rfl, rfl⟩ ⟨(Nat.le_of_ble_eq_true rfl), (Nat.le_of_ble_eq_true rfl)⟩ rfl (Nat.le_of_ble_eq_true rfl) dJ3_addLast_2 rfl ⟨(Nat.le_of_ble_eq_true rfl), (Nat.le_of_ble_eq_true rfl)⟩) 1 (Nat.le_of_ble_eq_true rfl) 3 (Nat.le_of_ble_eq_true rfl) 5 rfl (fun M1 k2 hp3 => ?_)
  obtain ⟨a_5, hc6, hc7, hc8, hF9, hq10, hk11⟩ := hp3
  exact g_vret hC (fun k9 hk9 => ⟨a_5, hc6, hc7, hc8, (gFr.refl.trans (hF9.mono (by intro b t hb; simp at hb ⊢; first | done | (rcases hb with rfl | rfl | rfl | rfl <;> simp) | (simp [hb]; done)))), hq10, (by first | exact Nat.le_zero.mp hk9 | omega)⟩) dJ3_addLast_5 (Nat.le_of_ble_eq_true rfl) (Nat.le_of_ble_eq_true rfl)
theorem List.ndS {A : List dsE} {a : Nat} (h : (A.map Prod.fst).Nodup) (ha : ∀ e ∈ A, e.1 ≠ a) (e : dsE) (he : e.1 = a) : ((A ++ [e]).map Prod.fst).Nodup := by
  rw [List.map_append, List.nodup_append]
  refine ⟨h, by simp, fun x hx y hy => ?_⟩
  obtain ⟨d, hd, rfl⟩ := List.mem_map.mp hx
  simp only [List.map_cons, List.map_nil, List.mem_singleton] at hy
  rw [hy, he]
  exact ha d hd
theorem llS.mem {M : gM} {t : Nat × Nat} {q : Option Nat} {e : dsE} : (D : List dsE) → (p : Option Nat) → llS M t p D q → e ∈ D → ∃ x, M e.1 = some (t, .inr (18, x))
  | d :: D, p, h, he => by
    rcases List.mem_cons.mp he with rfl | he
    · exact ⟨_, h.1⟩
    · exact llS.mem D _ h.2 he
set_option maxHeartbeats 4000000 in
theorem met_LL_add (l : Launch) (G : gG) (M : gM) (b : Nat) (t0 : Nat × Nat) (t1 : Nat × Nat) (mc : Int32) (D : List dsE) (it : Nat) (nd : Int32) (tm : Int32)  (hM_0 : M b = some (t0, .inr (17, [.int mc, .int (nI D.length), va_rf (llN D none), va_rf (llZ none D)]))) (hM_1 : M it = some ((0, 3), .inr (10, [.int nd, .int tm]))) (hP_0 : lls M t1 D) (hP_1 : dss M D) : Met l yJ3_addLast (ws_ yJ3_addLast cJ3_addLast 2 none) ({ frames := 3, cells := 1, slots := 3, locals := 90 }) (gPc G [.ref b, .ref it] M) (gQv G (fun M9 k9 => ∃ a : Nat, M9 b = some (t0, .inr (17, [.int (mc + 1), .int (nI (D.length + 1)), va_rf (llN (D ++ [(a, it, nd, tm)]) none), va_rf (llZ none (D ++ [(a, it, nd, tm)]))])) ∧ lls M9 t1 (D ++ [(a, it, nd, tm)]) ∧ dss M9 (D ++ [(a, it, nd, tm)]) ∧ gFr (gT (fun t => tgE t0.1 t0.2 t ∨ tgE t1.1 t1.2 t)) M M9 ∧ k9 ≤ 1)) 1 3 (gA G) := by
  rcases ll_cc D with rfl | ⟨A, z, rfl⟩
  · refine gMono_v (met_LL_addLast_0 l G M b t0 t1 mc it hM_0) ?_
    intro M9 k9 ⟨a, h1, h2, h3, hn, h4⟩
    have hab : ∀ x y, M x = some y → x ≠ b → M9 x = some y := fun x y hx hb => h3 x y.1 y.2 hx (gno hb gno0)
    have hit : M9 it = _ := hab it _ hM_1 (gne_c hM_1 hM_0 (by decide))
    refine ⟨a, h1, ⟨⟨h2, trivial⟩, by simp⟩, ?_, ?_, h4⟩
    · intro e he
      cases List.mem_singleton.mp he
      exact hit
    · intro x t y hx hn
      refine hab x _ hx ?_
      rintro rfl
      rw [hM_0] at hx
      cases hx
      exact hn (Or.inl ⟨rfl, rfl⟩)
  · have hs := (llS.app A none).mp hP_0.1
    have hnd := hP_0.2
    rw [List.map_append, List.nodup_append] at hnd
    have hzA : ∀ e ∈ A, e.1 ≠ z.1 := fun e he q => hnd.2.2 e.1 (List.mem_map.mpr ⟨e, he, rfl⟩) z.1 (by simp) q
    have hz : M z.1 = some (t1, .inr (18, [.ref z.2.1, va_rf none, va_rf (llZ none A)])) := hs.2.1
    have hM0' := hM_0
    rw [llZ_app] at hM0'
    refine gMono_v (met_LL_addLast_1 l G M b t0 t1 mc (A ++ [z]).length it (llN (A ++ [z]) none) z.1 z.2.1 (llZ none A) hM0' hz) ?_
    intro M9 k9 ⟨a, h1, h2, h3, h4, hn, h5⟩
    have hab : ∀ x y, M x = some y → x ≠ b → x ≠ z.1 → M9 x = some y := fun x y hx hb hz => h4 x y.1 y.2 hx (gno hb (gno hz gno0))
    have hit : M9 it = _ := hab it _ hM_1 (gne_c hM_1 hM_0 (by decide)) (gne_c hM_1 hz (by decide))
    have haA : ∀ e ∈ A ++ [z], e.1 ≠ a := by
      intro e he q
      obtain ⟨x, hx⟩ := llS.mem _ _ hP_0.1 he
      rw [q, hn] at hx
      cases hx
    have hN : llN (A ++ [z] ++ [(a, it, nd, tm)]) none = llN (A ++ [z]) none := by cases A <;> rfl
    refine ⟨a, ?_, ⟨?_, ?_⟩, ?_, ?_, h5⟩
    · rw [h1, hN, llZ_app]; rfl
    · refine (llS.app (A ++ [z]) none).mpr ⟨(llS.app A none).mpr ⟨?_, ?_⟩, ?_⟩
      · exact llS.of A none hs.1 (fun e he x hx => hab e.1 _ hx (by obtain ⟨y, hy⟩ := llS.mem _ _ hs.1 he; exact gne_c hy hM_0 (by decide)) (hzA e he))
      · exact ⟨h3, trivial⟩
      · rw [llZ_app]; exact ⟨h2, trivial⟩
    · exact List.ndS hP_0.2 haA _ rfl
    · intro e he
      rcases List.mem_append.mp he with he | he
      · exact hab _ _ (hP_1 e he) (gne_c (hP_1 e he) hM_0 (by decide)) (gne_c (hP_1 e he) hz (by decide))
      · cases List.mem_singleton.mp he
        exact hit
    · intro x t y hx hn
      refine hab x _ hx ?_ ?_
      · rintro rfl
        rw [hM_0] at hx
        cases hx
        exact hn (Or.inl ⟨rfl, rfl⟩)
      · rintro rfl
        rw [hz] at hx
        cases hx
        exact hn (Or.inr ⟨rfl, rfl⟩)
set_option maxHeartbeats 4000000 in
theorem met_LL_size (l : Launch) (G : gG) (M : gM) (b : Nat) (t0 : Nat × Nat) (t1 : Nat × Nat) (mc : Int32) (D : List dsE)  (hM_0 : M b = some (t0, .inr (17, [.int mc, .int (nI D.length), va_rf (llN D none), va_rf (llZ none D)]))) : Met l yJ3_size (ws_ yJ3_size cJ3_size 1 (some .int)) ({ frames := 0, cells := 0, slots := 0, locals := 0 }) (gPc G [.ref b] M) (gQi G (fun r9 M9 k9 => r9 = (nI D.length) ∧ M9 = M ∧ k9 = 0)) 0 0 (gA G) := by
  refine gMet [(0, .ref b)] (by decide) (Nat.le_of_ble_eq_true rfl) rfl ?_
  intro p e s m below meth c hC
  refine g_aload_n hC dJ3_size_0 0 rfl gRef_r 1 rfl ?_
  refine g_get (v := .int (nI D.length)) hC cI17 hM_0 1 (Nat.le_of_ble_eq_true rfl) q201 rfl dJ3_size_1 4 rfl ?_
  exact g_iret (v := nI D.length) hC (fun k9 hk9 => ⟨rfl, rfl, Nat.le_zero.mp hk9⟩) dJ3_size_4 (Nat.le_of_ble_eq_true rfl) (Nat.le_of_ble_eq_true rfl)
set_option maxHeartbeats 4000000 in
theorem met_LL_node (l : Launch) (G : gG) (M : gM) (b : Nat) (t0 : Nat × Nat) (t1 : Nat × Nat) (mc : Int32) (n : Nat) (fi : Nat) (la : Nat) (hn : 1 ≤ n) (hn8 : n ≤ 8) (h1 : n = 1 → la = fi) (hM_0 : M b = some (t0, .inr (17, [.int mc, .int (nI n), .ref fi, .ref la]))) : Met l yJ3_node (ws_ yJ3_node cJ3_node 4 (some (.object "java/util/LinkedList$Node"))) ({ frames := 0, cells := 0, slots := 0, locals := 0 }) (gPc G [.ref b, .int 0] M) (gQq G (fun r9 M9 k9 => r9 = (some fi) ∧ M9 = M ∧ k9 = 0)) 0 0 (gA G) := by
  refine gMet [(0, .ref b), (1, .int 0)] (by decide) (Nat.le_of_ble_eq_true rfl) rfl ?_
  intro p e s m below meth c hC
  rcases (show n = 1 ∨ n = 2 ∨ n = 3 ∨ n = 4 ∨ n = 5 ∨ n = 6 ∨ n = 7 ∨ n = 8 by omega) with rfl | rfl | rfl | rfl | rfl | rfl | rfl | rfl
  · refine g_iload_n hC dJ3_node_0 1 rfl 1 rfl ?_
    refine g_aload_n hC dJ3_node_1 0 rfl gRef_r 2 rfl ?_
    refine g_get (v := .int (nI 1)) hC cI17 hM_0 1 (Nat.le_of_ble_eq_true rfl) q201 rfl dJ3_node_2 5 rfl ?_
    refine g_iconst hC dJ3_node_5 ki_1 6 rfl ?_
    refine g_ishr hC dJ3_node_6 7 rfl ?_
    refine g_topi (y := 0) (by decide) ?_
    refine g_icmp_ge hC dJ3_node_7 35 rfl 10 rfl (fun c_1 => ?_) (fun c_1 => ?_)
    · refine g_aload_n hC dJ3_node_35 0 rfl gRef_r 36 rfl ?_
      refine g_get (v := .ref la) hC cI17 hM_0 3 (Nat.le_of_ble_eq_true rfl) q204 rfl dJ3_node_36 39 rfl ?_
      refine g_astore_n hC dJ3_node_39 rfl gRef_r (Nat.le_of_ble_eq_true rfl) [(2, .ref la), (0, .ref b), (1, .int 0)] rfl 40 rfl ?_
      refine g_aload_n hC dJ3_node_40 1 rfl gRef_r 41 rfl ?_
      refine g_get (v := .int (nI 1)) hC cI17 hM_0 1 (Nat.le_of_ble_eq_true rfl) q201 rfl dJ3_node_41 44 rfl ?_
      refine g_iconst hC dJ3_node_44 ki_1 45 rfl ?_
      refine g_isub hC dJ3_node_45 46 rfl ?_
      refine g_topi (y := 0) (nI_s (a := 1) (b := 1) (c := 0) (by omega)) ?_
      refine g_istore_n hC dJ3_node_46 rfl (Nat.le_of_ble_eq_true rfl) [(3, .int 0), (2, .ref la), (0, .ref b), (1, .int 0)] rfl 47 rfl ?_
      refine g_iload_n hC dJ3_node_47 0 rfl 48 rfl ?_
      refine g_iload_n hC dJ3_node_48 3 rfl 49 rfl ?_
      refine g_icmp_le hC dJ3_node_49 63 rfl 52 rfl (fun c_2 => ?_) (fun c_2 => ?_)
      · refine g_aload_n hC dJ3_node_63 1 rfl gRef_r 64 rfl ?_
        exact g_aret (v := some la) hC (by first | exact Or.inl ⟨_, rfl⟩ | exact Or.inr ⟨_, rfl⟩) (fun k9 hk9 => ⟨(congrArg some (h1 rfl)), rfl, Nat.le_zero.mp hk9⟩) dJ3_node_64 (Nat.le_of_ble_eq_true rfl) (Nat.le_of_ble_eq_true rfl)
      · exact absurd c_2 (by decide)
    · exact absurd c_1 (by decide)
  · refine g_iload_n hC dJ3_node_0 1 rfl 1 rfl ?_
    refine g_aload_n hC dJ3_node_1 0 rfl gRef_r 2 rfl ?_
    refine g_get (v := .int (nI 2)) hC cI17 hM_0 1 (Nat.le_of_ble_eq_true rfl) q201 rfl dJ3_node_2 5 rfl ?_
    refine g_iconst hC dJ3_node_5 ki_1 6 rfl ?_
    refine g_ishr hC dJ3_node_6 7 rfl ?_
    refine g_topi (y := 1) (by decide) ?_
    refine g_icmp_ge hC dJ3_node_7 35 rfl 10 rfl (fun c_3 => ?_) (fun c_3 => ?_)
    · exact absurd c_3 (by decide)
    · refine g_aload_n hC dJ3_node_10 0 rfl gRef_r 11 rfl ?_
      refine g_get (v := .ref fi) hC cI17 hM_0 2 (Nat.le_of_ble_eq_true rfl) q203 rfl dJ3_node_11 14 rfl ?_
      refine g_astore_n hC dJ3_node_14 rfl gRef_r (Nat.le_of_ble_eq_true rfl) [(2, .ref fi), (0, .ref b), (1, .int 0)] rfl 15 rfl ?_
      refine g_iconst hC dJ3_node_15 ki_0 16 rfl ?_
      refine g_istore_n hC dJ3_node_16 rfl (Nat.le_of_ble_eq_true rfl) [(3, .int 0), (2, .ref fi), (0, .ref b), (1, .int 0)] rfl 17 rfl ?_
      refine g_iload_n hC dJ3_node_17 0 rfl 18 rfl ?_
      refine g_iload_n hC dJ3_node_18 3 rfl 19 rfl ?_
      refine g_icmp_ge hC dJ3_node_19 33 rfl 22 rfl (fun c_4 => ?_) (fun c_4 => ?_)
      · refine g_aload_n hC dJ3_node_33 1 rfl gRef_r 34 rfl ?_
        exact g_aret (v := some fi) hC (by first | exact Or.inl ⟨_, rfl⟩ | exact Or.inr ⟨_, rfl⟩) (fun k9 hk9 => ⟨rfl, rfl, Nat.le_zero.mp hk9⟩) dJ3_node_34 (Nat.le_of_ble_eq_true rfl) (Nat.le_of_ble_eq_true rfl)
      · exact absurd c_4 (by decide)
  · refine g_iload_n hC dJ3_node_0 1 rfl 1 rfl ?_
    refine g_aload_n hC dJ3_node_1 0 rfl gRef_r 2 rfl ?_
    refine g_get (v := .int (nI 3)) hC cI17 hM_0 1 (Nat.le_of_ble_eq_true rfl) q201 rfl dJ3_node_2 5 rfl ?_
    refine g_iconst hC dJ3_node_5 ki_1 6 rfl ?_
    refine g_ishr hC dJ3_node_6 7 rfl ?_
    refine g_topi (y := 1) (by decide) ?_
    refine g_icmp_ge hC dJ3_node_7 35 rfl 10 rfl (fun c_5 => ?_) (fun c_5 => ?_)
    · exact absurd c_5 (by decide)
    · refine g_aload_n hC dJ3_node_10 0 rfl gRef_r 11 rfl ?_
      refine g_get (v := .ref fi) hC cI17 hM_0 2 (Nat.le_of_ble_eq_true rfl) q203 rfl dJ3_node_11 14 rfl ?_
      refine g_astore_n hC dJ3_node_14 rfl gRef_r (Nat.le_of_ble_eq_true rfl) [(2, .ref fi), (0, .ref b), (1, .int 0)] rfl 15 rfl ?_
      refine g_iconst hC dJ3_node_15 ki_0 16 rfl ?_
      refine g_istore_n hC dJ3_node_16 rfl (Nat.le_of_ble_eq_true rfl) [(3, .int 0), (2, .ref fi), (0, .ref b), (1, .int 0)] rfl 17 rfl ?_
      refine g_iload_n hC dJ3_node_17 0 rfl 18 rfl ?_
      refine g_iload_n hC dJ3_node_18 3 rfl 19 rfl ?_
      refine g_icmp_ge hC dJ3_node_19 33 rfl 22 rfl (fun c_6 => ?_) (fun c_6 => ?_)
      · refine g_aload_n hC dJ3_node_33 1 rfl gRef_r 34 rfl ?_
        exact g_aret (v := some fi) hC (by first | exact Or.inl ⟨_, rfl⟩ | exact Or.inr ⟨_, rfl⟩) (fun k9 hk9 => ⟨rfl, rfl, Nat.le_zero.mp hk9⟩) dJ3_node_34 (Nat.le_of_ble_eq_true rfl) (Nat.le_of_ble_eq_true rfl)
      · exact absurd c_6 (by decide)
  · refine g_iload_n hC dJ3_node_0 1 rfl 1 rfl ?_
    refine g_aload_n hC dJ3_node_1 0 rfl gRef_r 2 rfl ?_
    refine g_get (v := .int (nI 4)) hC cI17 hM_0 1 (Nat.le_of_ble_eq_true rfl) q201 rfl dJ3_node_2 5 rfl ?_
    refine g_iconst hC dJ3_node_5 ki_1 6 rfl ?_
    refine g_ishr hC dJ3_node_6 7 rfl ?_
    refine g_topi (y := 2) (by decide) ?_
    refine g_icmp_ge hC dJ3_node_7 35 rfl 10 rfl (fun c_7 => ?_) (fun c_7 => ?_)
    · exact absurd c_7 (by decide)
    · refine g_aload_n hC dJ3_node_10 0 rfl gRef_r 11 rfl ?_
      refine g_get (v := .ref fi) hC cI17 hM_0 2 (Nat.le_of_ble_eq_true rfl) q203 rfl dJ3_node_11 14 rfl ?_
      refine g_astore_n hC dJ3_node_14 rfl gRef_r (Nat.le_of_ble_eq_true rfl) [(2, .ref fi), (0, .ref b), (1, .int 0)] rfl 15 rfl ?_
      refine g_iconst hC dJ3_node_15 ki_0 16 rfl ?_
      refine g_istore_n hC dJ3_node_16 rfl (Nat.le_of_ble_eq_true rfl) [(3, .int 0), (2, .ref fi), (0, .ref b), (1, .int 0)] rfl 17 rfl ?_
      refine g_iload_n hC dJ3_node_17 0 rfl 18 rfl ?_
      refine g_iload_n hC dJ3_node_18 3 rfl 19 rfl ?_
      refine g_icmp_ge hC dJ3_node_19 33 rfl 22 rfl (fun c_8 => ?_) (fun c_8 => ?_)
      · refine g_aload_n hC dJ3_node_33 1 rfl gRef_r 34 rfl ?_
        exact g_aret (v := some fi) hC (by first | exact Or.inl ⟨_, rfl⟩ | exact Or.inr ⟨_, rfl⟩) (fun k9 hk9 => ⟨rfl, rfl, Nat.le_zero.mp hk9⟩) dJ3_node_34 (Nat.le_of_ble_eq_true rfl) (Nat.le_of_ble_eq_true rfl)
      · exact absurd c_8 (by decide)
  · refine g_iload_n hC dJ3_node_0 1 rfl 1 rfl ?_
    refine g_aload_n hC dJ3_node_1 0 rfl gRef_r 2 rfl ?_
    refine g_get (v := .int (nI 5)) hC cI17 hM_0 1 (Nat.le_of_ble_eq_true rfl) q201 rfl dJ3_node_2 5 rfl ?_
    refine g_iconst hC dJ3_node_5 ki_1 6 rfl ?_
    refine g_ishr hC dJ3_node_6 7 rfl ?_
    refine g_topi (y := 2) (by decide) ?_
    refine g_icmp_ge hC dJ3_node_7 35 rfl 10 rfl (fun c_9 => ?_) (fun c_9 => ?_)
    · exact absurd c_9 (by decide)
    · refine g_aload_n hC dJ3_node_10 0 rfl gRef_r 11 rfl ?_
      refine g_get (v := .ref fi) hC cI17 hM_0 2 (Nat.le_of_ble_eq_true rfl) q203 rfl dJ3_node_11 14 rfl ?_
      refine g_astore_n hC dJ3_node_14 rfl gRef_r (Nat.le_of_ble_eq_true rfl) [(2, .ref fi), (0, .ref b), (1, .int 0)] rfl 15 rfl ?_
      refine g_iconst hC dJ3_node_15 ki_0 16 rfl ?_
      refine g_istore_n hC dJ3_node_16 rfl (Nat.le_of_ble_eq_true rfl) [(3, .int 0), (2, .ref fi), (0, .ref b), (1, .int 0)] rfl 17 rfl ?_
      refine g_iload_n hC dJ3_node_17 0 rfl 18 rfl ?_
      refine g_iload_n hC dJ3_node_18 3 rfl 19 rfl ?_
      refine g_icmp_ge hC dJ3_node_19 33 rfl 22 rfl (fun c_10 => ?_) (fun c_10 => ?_)
      · refine g_aload_n hC dJ3_node_33 1 rfl gRef_r 34 rfl ?_
        exact g_aret (v := some fi) hC (by first | exact Or.inl ⟨_, rfl⟩ | exact Or.inr ⟨_, rfl⟩) (fun k9 hk9 => ⟨rfl, rfl, Nat.le_zero.mp hk9⟩) dJ3_node_34 (Nat.le_of_ble_eq_true rfl) (Nat.le_of_ble_eq_true rfl)
      · exact absurd c_10 (by decide)
  · refine g_iload_n hC dJ3_node_0 1 rfl 1 rfl ?_
    refine g_aload_n hC dJ3_node_1 0 rfl gRef_r 2 rfl ?_
    refine g_get (v := .int (nI 6)) hC cI17 hM_0 1 (Nat.le_of_ble_eq_true rfl) q201 rfl dJ3_node_2 5 rfl ?_
    refine g_iconst hC dJ3_node_5 ki_1 6 rfl ?_
    refine g_ishr hC dJ3_node_6 7 rfl ?_
    refine g_topi (y := 3) (by decide) ?_
    refine g_icmp_ge hC dJ3_node_7 35 rfl 10 rfl (fun c_11 => ?_) (fun c_11 => ?_)
    · exact absurd c_11 (by decide)
    · refine g_aload_n hC dJ3_node_10 0 rfl gRef_r 11 rfl ?_
      refine g_get (v := .ref fi) hC cI17 hM_0 2 (Nat.le_of_ble_eq_true rfl) q203 rfl dJ3_node_11 14 rfl ?_
      refine g_astore_n hC dJ3_node_14 rfl gRef_r (Nat.le_of_ble_eq_true rfl) [(2, .ref fi), (0, .ref b), (1, .int 0)] rfl 15 rfl ?_
      refine g_iconst hC dJ3_node_15 ki_0 16 rfl ?_
      refine g_istore_n hC dJ3_node_16 rfl (Nat.le_of_ble_eq_true rfl) [(3, .int 0), (2, .ref fi), (0, .ref b), (1, .int 0)] rfl 17 rfl ?_
      refine g_iload_n hC dJ3_node_17 0 rfl 18 rfl ?_
      refine g_iload_n hC dJ3_node_18 3 rfl 19 rfl ?_
      refine g_icmp_ge hC dJ3_node_19 33 rfl 22 rfl (fun c_12 => ?_) (fun c_12 => ?_)
      · refine g_aload_n hC dJ3_node_33 1 rfl gRef_r 34 rfl ?_
        exact g_aret (v := some fi) hC (by first | exact Or.inl ⟨_, rfl⟩ | exact Or.inr ⟨_, rfl⟩) (fun k9 hk9 => ⟨rfl, rfl, Nat.le_zero.mp hk9⟩) dJ3_node_34 (Nat.le_of_ble_eq_true rfl) (Nat.le_of_ble_eq_true rfl)
      · exact absurd c_12 (by decide)
  · refine g_iload_n hC dJ3_node_0 1 rfl 1 rfl ?_
    refine g_aload_n hC dJ3_node_1 0 rfl gRef_r 2 rfl ?_
    refine g_get (v := .int (nI 7)) hC cI17 hM_0 1 (Nat.le_of_ble_eq_true rfl) q201 rfl dJ3_node_2 5 rfl ?_
    refine g_iconst hC dJ3_node_5 ki_1 6 rfl ?_
    refine g_ishr hC dJ3_node_6 7 rfl ?_
    refine g_topi (y := 3) (by decide) ?_
    refine g_icmp_ge hC dJ3_node_7 35 rfl 10 rfl (fun c_13 => ?_) (fun c_13 => ?_)
    · exact absurd c_13 (by decide)
    · refine g_aload_n hC dJ3_node_10 0 rfl gRef_r 11 rfl ?_
      refine g_get (v := .ref fi) hC cI17 hM_0 2 (Nat.le_of_ble_eq_true rfl) q203 rfl dJ3_node_11 14 rfl ?_
      refine g_astore_n hC dJ3_node_14 rfl gRef_r (Nat.le_of_ble_eq_true rfl) [(2, .ref fi), (0, .ref b), (1, .int 0)] rfl 15 rfl ?_
      refine g_iconst hC dJ3_node_15 ki_0 16 rfl ?_
      refine g_istore_n hC dJ3_node_16 rfl (Nat.le_of_ble_eq_true rfl) [(3, .int 0), (2, .ref fi), (0, .ref b), (1, .int 0)] rfl 17 rfl ?_
      refine g_iload_n hC dJ3_node_17 0 rfl 18 rfl ?_
      refine g_iload_n hC dJ3_node_18 3 rfl 19 rfl ?_
      refine g_icmp_ge hC dJ3_node_19 33 rfl 22 rfl (fun c_14 => ?_) (fun c_14 => ?_)
      · refine g_aload_n hC dJ3_node_33 1 rfl gRef_r 34 rfl ?_
        exact g_aret (v := some fi) hC (by first | exact Or.inl ⟨_, rfl⟩ | exact Or.inr ⟨_, rfl⟩) (fun k9 hk9 => ⟨rfl, rfl, Nat.le_zero.mp hk9⟩) dJ3_node_34 (Nat.le_of_ble_eq_true rfl) (Nat.le_of_ble_eq_true rfl)
      · exact absurd c_14 (by decide)
  · refine g_iload_n hC dJ3_node_0 1 rfl 1 rfl ?_
    refine g_aload_n hC dJ3_node_1 0 rfl gRef_r 2 rfl ?_
    refine g_get (v := .int (nI 8)) hC cI17 hM_0 1 (Nat.le_of_ble_eq_true rfl) q201 rfl dJ3_node_2 5 rfl ?_
    refine g_iconst hC dJ3_node_5 ki_1 6 rfl ?_
    refine g_ishr hC dJ3_node_6 7 rfl ?_
    refine g_topi (y := 4) (by decide) ?_
    refine g_icmp_ge hC dJ3_node_7 35 rfl 10 rfl (fun c_15 => ?_) (fun c_15 => ?_)
    · exact absurd c_15 (by decide)
    · refine g_aload_n hC dJ3_node_10 0 rfl gRef_r 11 rfl ?_
      refine g_get (v := .ref fi) hC cI17 hM_0 2 (Nat.le_of_ble_eq_true rfl) q203 rfl dJ3_node_11 14 rfl ?_
      refine g_astore_n hC dJ3_node_14 rfl gRef_r (Nat.le_of_ble_eq_true rfl) [(2, .ref fi), (0, .ref b), (1, .int 0)] rfl 15 rfl ?_
      refine g_iconst hC dJ3_node_15 ki_0 16 rfl ?_
      refine g_istore_n hC dJ3_node_16 rfl (Nat.le_of_ble_eq_true rfl) [(3, .int 0), (2, .ref fi), (0, .ref b), (1, .int 0)] rfl 17 rfl ?_
      refine g_iload_n hC dJ3_node_17 0 rfl 18 rfl ?_
      refine g_iload_n hC dJ3_node_18 3 rfl 19 rfl ?_
      refine g_icmp_ge hC dJ3_node_19 33 rfl 22 rfl (fun c_16 => ?_) (fun c_16 => ?_)
      · refine g_aload_n hC dJ3_node_33 1 rfl gRef_r 34 rfl ?_
        exact g_aret (v := some fi) hC (by first | exact Or.inl ⟨_, rfl⟩ | exact Or.inr ⟨_, rfl⟩) (fun k9 hk9 => ⟨rfl, rfl, Nat.le_zero.mp hk9⟩) dJ3_node_34 (Nat.le_of_ble_eq_true rfl) (Nat.le_of_ble_eq_true rfl)
      · exact absurd c_16 (by decide)
set_option maxHeartbeats 4000000 in
theorem met_LL_isPos (l : Launch) (G : gG) (M : gM) (b : Nat) (t0 : Nat × Nat) (t1 : Nat × Nat) (mc : Int32) (n : Nat) (fi : Option Nat) (la : Option Nat) (hn8 : n ≤ 8) (hM_0 : M b = some (t0, .inr (17, [.int mc, .int (nI n), va_rf fi, va_rf la]))) : Met l yJ3_isPositionIndex (ws_ yJ3_isPositionIndex cJ3_isPositionIndex 2 (some .boolean)) ({ frames := 0, cells := 0, slots := 0, locals := 0 }) (gPc G [.ref b, .int 0] M) (gQi G (fun r9 M9 k9 => r9 = 1 ∧ M9 = M ∧ k9 = 0)) 0 0 (gA G) := by
  refine gMet [(0, .ref b), (1, .int 0)] (by decide) (Nat.le_of_ble_eq_true rfl) rfl ?_
  intro p e s m below meth c hC
  refine g_iload_n hC dJ3_isPositionIndex_0 1 rfl 1 rfl ?_
  refine g_if_lt hC dJ3_isPositionIndex_1 16 rfl 4 rfl (fun c_1 => ?_) (fun c_1 => ?_)
  · exact absurd c_1 (by decide)
  · refine g_iload_n hC dJ3_isPositionIndex_4 1 rfl 5 rfl ?_
    refine g_aload_n hC dJ3_isPositionIndex_5 0 rfl gRef_r 6 rfl ?_
    refine g_get (v := .int (nI n)) hC cI17 hM_0 1 (Nat.le_of_ble_eq_true rfl) q201 rfl dJ3_isPositionIndex_6 9 rfl ?_
    refine g_icmp_gt hC dJ3_isPositionIndex_9 16 rfl 12 rfl (fun c_2 => ?_) (fun c_2 => ?_)
    · exact absurd (show n < 0 from nn_lt (by omega) (by omega) c_2) (by omega)
    · replace c_2 : 0 ≤ n := nn_nlt (by omega) (by omega) c_2
      refine g_iconst hC dJ3_isPositionIndex_12 ki_1 13 rfl ?_
      refine g_goto hC dJ3_isPositionIndex_13 17 rfl ?_
      exact g_zret (v := 1) hC (by decide) (fun k9 hk9 => ⟨rfl, rfl, Nat.le_zero.mp hk9⟩) dJ3_isPositionIndex_17 (Nat.le_of_ble_eq_true rfl) (Nat.le_of_ble_eq_true rfl)
set_option maxHeartbeats 4000000 in
theorem met_LL_chkPos (l : Launch) (G : gG) (M : gM) (b : Nat) (t0 : Nat × Nat) (t1 : Nat × Nat) (mc : Int32) (n : Nat) (fi : Option Nat) (la : Option Nat) (hn8 : n ≤ 8) (hM_0 : M b = some (t0, .inr (17, [.int mc, .int (nI n), va_rf fi, va_rf la]))) : Met l yJ3_checkPositionIndex (ws_ yJ3_checkPositionIndex cJ3_checkPositionIndex 2 none) ({ frames := 1, cells := 0, slots := 0, locals := 21 }) (gPc G [.ref b, .int 0] M) (gQv G (fun M9 k9 => M9 = M ∧ k9 = 0)) 0 0 (gA G) := by
  refine gMet [(0, .ref b), (1, .int 0)] (by decide) (Nat.le_of_ble_eq_true rfl) rfl ?_
  intro p e s m below meth c hC
  refine g_aload_n hC dJ3_checkPositionIndex_0 0 rfl gRef_r 1 rfl ?_
  refine g_iload_n hC dJ3_checkPositionIndex_1 1 rfl 2 rfl ?_
  refine g_calliP (g_V (As := [.int 0]) (rest := []) hC mvJ3_isPositionIndex q1932 (gOf.of hC.K cI17 hM_0) (met_LL_isPos l G M b t0 t1 mc n fi la hn8 hM_0) ⟨rfl, rfl⟩ ⟨(Nat.le_of_ble_eq_true rfl), (Nat.le_of_ble_eq_true rfl)⟩ rfl (Nat.le_of_ble_eq_true rfl) dJ3_checkPositionIndex_2 rfl ⟨(Nat.le_of_ble_eq_true rfl), (Nat.le_of_ble_eq_true rfl)⟩) 5 rfl 0 (Nat.le_of_ble_eq_true rfl) ?_
  refine g_if_ne hC dJ3_checkPositionIndex_5 21 rfl 8 rfl (fun c_1 => ?_) (fun c_1 => ?_)
  · exact g_vret hC (fun k9 hk9 => ⟨rfl, Nat.le_zero.mp hk9⟩) dJ3_checkPositionIndex_21 (Nat.le_of_ble_eq_true rfl) (Nat.le_of_ble_eq_true rfl)
  · exact absurd c_1 (by decide)
set_option maxHeartbeats 4000000 in
theorem met_LLi_init_0 (l : Launch) (G : gG) (M : gM) (b : Nat) (t0 : Nat × Nat) (t1 : Nat × Nat) (mc : Int32) (i9 : Nat)  (hM_0 : M b = some (t0, .inr (17, [.int mc, .int (nI 0), .null, .null]))) (hM_1 : M i9 = some ((9, 0), .inr (19, [.null, .null, .int 0, .int 0, .null]))) : Met l yJ34_init (ws_ yJ34_init cJ34_init 3 none) ({ frames := 2, cells := 0, slots := 0, locals := 60 }) (gPc G [.ref i9, .ref b, .int 0] M) (gQv G (fun M9 k9 => M9 i9 = some ((9, 0), .inr (19, [.null, .null, .int 0, .int mc, .ref b])) ∧ gFr (gL [i9]) M M9 ∧ k9 = 0)) 0 0 (gA G) := by
  refine gMet [(0, .ref i9), (1, .ref b), (2, .int 0)] (by decide) (Nat.le_of_ble_eq_true rfl) rfl ?_
  intro p e s m below meth c hC
  refine g_aload_n hC dJ34_init_0 0 rfl gRef_r 1 rfl ?_
  refine g_aload_n hC dJ34_init_1 1 rfl gRef_r 2 rfl ?_
  refine g_putF hC cI19 hM_1 4 (Nat.le_of_ble_eq_true rfl) q1947 rfl rfl rfl rfl (Nat.le_of_ble_eq_true rfl) dJ34_init_2 (fs' := [.null, .null, .int 0, .int 0, .ref b]) rfl 5 rfl (fun M1 hU2 => ?_)
  refine g_aload_n hC dJ34_init_5 0 rfl gRef_r 6 rfl ?_
  refine g_objInit hC q1941 q176 q177 dJ34_init_6 (Nat.le_of_ble_eq_true rfl) (Nat.le_of_ble_eq_true rfl) 9 rfl ?_
  refine g_aload_n hC dJ34_init_9 0 rfl gRef_r 10 rfl ?_
  refine g_aload_n hC dJ34_init_10 0 rfl gRef_r 11 rfl ?_
  refine g_get (v := .ref b) hC cI19 hU2.1 4 (Nat.le_of_ble_eq_true rfl) q1947 rfl dJ34_init_11 14 rfl ?_
  refine g_getU (v := .int mc) hC cI17 (hU2.n (gne_c hM_0 hM_1 (by decide)) hM_0) 0 (Nat.le_of_ble_eq_true rfl) q206 q207 rfl dJ34_init_14 17 rfl ?_
  refine g_put hC cI19 hU2.1 3 (Nat.le_of_ble_eq_true rfl) q1946 rfl rfl rfl (Nat.le_of_ble_eq_true rfl) dJ34_init_17 (fs' := [.null, .null, .int 0, .int mc, .ref b]) rfl 20 rfl (fun M3 hU4 => ?_)
  refine g_aload_n hC dJ34_init_20 0 rfl gRef_r 21 rfl ?_
  refine g_iload_n hC dJ34_init_21 2 rfl 22 rfl ?_
  refine g_aload_n hC dJ34_init_22 1 rfl gRef_r 23 rfl ?_
  refine g_get (v := .int (nI 0)) hC cI17 (hU4.n (gne_c (hU2.n (gne_c hM_0 hM_1 (by decide)) hM_0) hU2.1 (by decide)) (hU2.n (gne_c hM_0 hM_1 (by decide)) hM_0)) 1 (Nat.le_of_ble_eq_true rfl) q202 rfl dJ34_init_23 26 rfl ?_
  refine g_icmp_ne hC dJ34_init_26 33 rfl 29 rfl (fun c_5 => ?_) (fun c_5 => ?_)
  · exact absurd (show ¬ 0 = 0 from nn_neq (by omega) (by omega) c_5) (by omega)
  · replace c_5 : 0 = 0 := nn_eq (by omega) (by omega) c_5
    refine g_null hC dJ34_init_29 30 rfl ?_
    refine g_goto hC dJ34_init_30 38 rfl ?_
    refine g_put hC cI19 hU4.1 1 (Nat.le_of_ble_eq_true rfl) q1944 rfl rfl rfl (Nat.le_of_ble_eq_true rfl) dJ34_init_38 (fs' := [.null, .null, .int 0, .int mc, .ref b]) rfl 41 rfl (fun M6 hU7 => ?_)
    have hH8 := (hU7.n (gne_c (hU4.n (gne_c (hU2.n (gne_c hM_0 hM_1 (by decide)) hM_0) hU2.1 (by decide)) (hU2.n (gne_c hM_0 hM_1 (by decide)) hM_0)) hU4.1 (by decide)) (hU4.n (gne_c (hU2.n (gne_c hM_0 hM_1 (by decide)) hM_0) hU2.1 (by decide)) (hU2.n (gne_c hM_0 hM_1 (by decide)) hM_0)))
    refine g_aload_n hC dJ34_init_41 0 rfl gRef_r 42 rfl ?_
    refine g_iload_n hC dJ34_init_42 2 rfl 43 rfl ?_
    refine g_put hC cI19 hU7.1 2 (Nat.le_of_ble_eq_true rfl) q1945 rfl rfl rfl (Nat.le_of_ble_eq_true rfl) dJ34_init_43 (fs' := [.null, .null, .int 0, .int mc, .ref b]) rfl 46 rfl (fun M9 hU10 => ?_)
    exact g_vret hC (fun k9 hk9 => ⟨hU10.1, ((((gFr.refl.up hU2 hM_1 (by simp)).up hU4 hU2.1 (by simp)).up hU7 hU4.1 (by simp)).up hU10 hU7.1 (by simp)), (by first | exact Nat.le_zero.mp hk9 | omega)⟩) dJ34_init_46 (Nat.le_of_ble_eq_true rfl) (Nat.le_of_ble_eq_true rfl)
set_option maxHeartbeats 4000000 in
theorem met_LL_li_0 (l : Launch) (G : gG) (M : gM) (b : Nat) (t0 : Nat × Nat) (t1 : Nat × Nat) (mc : Int32)  (hM_0 : M b = some (t0, .inr (17, [.int mc, .int (nI 0), .null, .null]))) : Met l yJ3_listIterator (ws_ yJ3_listIterator cJ3_listIterator 2 (some (.object "java/util/ListIterator"))) ({ frames := 4, cells := 1, slots := 5, locals := 100 }) (gPc G [.ref b, .int 0] M) (gQq G (fun r9 M9 k9 => ∃ i9 : Nat, r9 = (some i9) ∧ M9 i9 = some ((9, 0), .inr (19, [.null, .null, .int 0, .int mc, .ref b])) ∧ gFr (gL []) M M9 ∧ k9 ≤ 1)) 1 5 (gA G) := by
  refine gMet [(0, .ref b), (1, .int 0)] (by decide) (Nat.le_of_ble_eq_true rfl) rfl ?_
  intro p e s m below meth c hC
  refine g_aload_n hC dJ3_listIterator_0 0 rfl gRef_r 1 rfl ?_
  refine g_iload_n hC dJ3_listIterator_1 1 rfl 2 rfl ?_
  refine g_callvP (g_V (As := [.int 0]) (rest := []) hC mvJ3_checkPositionIndex q1928 (gOf.of hC.K cI17 hM_0) (met_LL_chkPos l G M b t0 t1 mc 0 none none (by first | assumption | decide | omega | (dsimp only; omega) | simp_all) hM_0) ⟨rfl, rfl⟩ ⟨(Nat.le_of_ble_eq_true rfl), (Nat.le_of_ble_eq_true rfl)⟩ rfl (Nat.le_of_ble_eq_true rfl) dJ3_listIterator_2 rfl ⟨(Nat.le_of_ble_eq_true rfl), (Nat.le_of_ble_eq_true rfl)⟩) 5 rfl 0 (Nat.le_of_ble_eq_true rfl) ?_
  refine g_new hC cI19 q1936 q1937 q152 df19 (9, 0) (Nat.le_of_ble_eq_true rfl) (Nat.le_of_ble_eq_true rfl) 1 (Nat.le_of_ble_eq_true rfl) 5 (Nat.le_of_ble_eq_true rfl) dJ3_listIterator_5 8 rfl (fun a1 M2 hN3 => ?_)
  refine g_dup hC dJ3_listIterator_8 rfl 9 rfl ?_
  refine g_aload_n hC dJ3_listIterator_9 0 rfl gRef_r 10 rfl ?_
  refine g_iload_n hC dJ3_listIterator_10 1 rfl 11 rfl ?_
  refine g_callv (g_I (As := [.ref b, .int 0]) (rest := [.ref a1]) hC miJ34_init q1938 (met_LLi_init_0 l G M2 b t0 t1 mc a1 (hN3.n hM_0) hN3.2.1) ⟨rfl, rfl⟩ ⟨(Nat.le_of_ble_eq_true rfl), (Nat.le_of_ble_eq_true rfl)⟩ rfl (Nat.le_of_ble_eq_true rfl) dJ3_listIterator_11 rfl ⟨(Nat.le_of_ble_eq_true rfl), (Nat.le_of_ble_eq_true rfl)⟩) 1 (Nat.le_of_ble_eq_true rfl) 5 (Nat.le_of_ble_eq_true rfl) 14 rfl (fun M4 k5 hp6 => ?_)
  obtain ⟨hc8, hF9, hk10⟩ := hp6
  exact g_aret (v := some a1) hC (by first | exact Or.inl ⟨_, rfl⟩ | exact Or.inr ⟨_, rfl⟩) (fun k9 hk9 => ⟨a1, rfl, (by rw [hc8]; all_goals (first | rfl | (simp only [if_true, if_false, true_and, and_true, false_and, and_false, true_or, or_true, false_or, or_false, not_true_eq_false, not_false_eq_true, reduceIte, decide_true, decide_false, Bool.false_eq_true]; done) | (simp only [if_true, if_false, true_and, and_true, false_and, and_false, true_or, or_true, false_or, or_false, not_true_eq_false, not_false_eq_true, reduceIte, decide_true, decide_false, Bool.false_eq_true]; rfl) | (simp only [if_true, if_false, true_and, and_true, false_and, and_false, true_or, or_true, false_or, or_false, not_true_eq_false, not_false_eq_true, reduceIte, decide_true, decide_false, Bool.false_eq_true]; done) | (simp only []; simp only [if_true, if_false, true_and, and_true, false_and, and_false, true_or, or_true, false_or, or_false, not_true_eq_false, not_false_eq_true, reduceIte, decide_true, decide_false, Bool.false_eq_true]; done) | (simp only []; simp only [if_true, if_false, true_and, and_true, false_and, and_false, true_or, or_true, false_or, or_false, not_true_eq_false, not_false_eq_true, reduceIte, decide_true, decide_false, Bool.false_eq_true]; done) | (simp only []; simp only [if_true, if_false, true_and, and_true, false_and, and_false, true_or, or_true, false_or, or_false, not_true_eq_false, not_false_eq_true, reduceIte, decide_true, decide_false, Bool.false_eq_true]; simp only []; done) | (simp only [if_true, if_false, true_and, and_true, false_and, and_false, true_or, or_true, false_or, or_false, not_true_eq_false, not_false_eq_true, reduceIte, decide_true, decide_false, Bool.false_eq_true]; rfl) | (simp only []; simp only [if_true, if_false, true_and, and_true, false_and, and_false, true_or, or_true, false_or, or_false, not_true_eq_false, not_false_eq_true, reduceIte, decide_true, decide_false, Bool.false_eq_true]; rfl) | (simp only []; rfl) | (simp only [if_true, if_false, true_and, and_true, false_and, and_false, true_or, or_true, false_or, or_false, not_true_eq_false, not_false_eq_true, reduceIte, decide_true, decide_false, Bool.false_eq_true]; rfl) | (simp_all []; done))), ((gFr.refl.nw hN3).trf hF9 (fun b t e hb hn => (gno (hN3.ne (gFr.refl b t e hb hn)) gno0))), (by first | exact Nat.le_zero.mp hk9 | omega)⟩) dJ3_listIterator_14 (Nat.le_of_ble_eq_true rfl) (Nat.le_of_ble_eq_true rfl)
set_option maxHeartbeats 4000000 in
theorem met_LL_al_0 (l : Launch) (G : gG) (M : gM) (b : Nat) (t0 : Nat × Nat) (t1 : Nat × Nat) (mc : Int32)  (hM_0 : M b = some (t0, .inr (17, [.int mc, .int (nI 0), .null, .null]))) : Met l yJ1_listIterator (ws_ yJ1_listIterator cJ1_listIterator 1 (some (.object "java/util/ListIterator"))) ({ frames := 5, cells := 1, slots := 5, locals := 125 }) (gPc G [.ref b] M) (gQq G (fun r9 M9 k9 => ∃ i9 : Nat, r9 = (some i9) ∧ M9 i9 = some ((9, 0), .inr (19, [.null, .null, .int 0, .int mc, .ref b])) ∧ gFr (gL []) M M9 ∧ k9 ≤ 1)) 1 5 (gA G) := by
  refine gMet [(0, .ref b)] (by decide) (Nat.le_of_ble_eq_true rfl) rfl ?_
  intro p e s m below meth c hC
  refine g_aload_n hC dJ1_listIterator_0 0 rfl gRef_r 1 rfl ?_
  refine g_iconst hC dJ1_listIterator_1 ki_0 2 rfl ?_
  refine g_callq (g_U (n := 1) (As := [.int 0]) (rest := []) hC ⟨q1889, q1925, q1926, q107, q1927, (Or.inr q1959), by decide +kernel⟩ q1887 (gOf.of hC.K cI17 hM_0) (met_LL_li_0 l G M b t0 t1 mc hM_0) ⟨rfl, rfl⟩ ⟨(Nat.le_of_ble_eq_true rfl), (Nat.le_of_ble_eq_true rfl)⟩ rfl (Nat.le_of_ble_eq_true rfl) dJ1_listIterator_2 rfl ⟨(Nat.le_of_ble_eq_true rfl), (Nat.le_of_ble_eq_true rfl)⟩) 1 (Nat.le_of_ble_eq_true rfl) 5 (Nat.le_of_ble_eq_true rfl) 5 rfl (fun r4 M1 k2 hp3 => ?_)
  obtain ⟨i9_5, rfl, hc6, hF7, hk8⟩ := hp3
  exact g_aret (v := some i9_5) hC (by first | exact Or.inl ⟨_, rfl⟩ | exact Or.inr ⟨_, rfl⟩) (fun k9 hk9 => ⟨i9_5, rfl, (by rw [hc6]; all_goals (first | rfl | (simp only [if_true, if_false, true_and, and_true, false_and, and_false, true_or, or_true, false_or, or_false, not_true_eq_false, not_false_eq_true, reduceIte, decide_true, decide_false, Bool.false_eq_true]; done) | (simp only [if_true, if_false, true_and, and_true, false_and, and_false, true_or, or_true, false_or, or_false, not_true_eq_false, not_false_eq_true, reduceIte, decide_true, decide_false, Bool.false_eq_true]; rfl) | (simp only [if_true, if_false, true_and, and_true, false_and, and_false, true_or, or_true, false_or, or_false, not_true_eq_false, not_false_eq_true, reduceIte, decide_true, decide_false, Bool.false_eq_true]; done) | (simp only []; simp only [if_true, if_false, true_and, and_true, false_and, and_false, true_or, or_true, false_or, or_false, not_true_eq_false, not_false_eq_true, reduceIte, decide_true, decide_false, Bool.false_eq_true]; done) | (simp only []; simp only [if_true, if_false, true_and, and_true, false_and, and_false, true_or, or_true, false_or, or_false, not_true_eq_false, not_false_eq_true, reduceIte, decide_true, decide_false, Bool.false_eq_true]; done) | (simp only []; simp only [if_true, if_false, true_and, and_true, false_and, and_false, true_or, or_true, false_or, or_false, not_true_eq_false, not_false_eq_true, reduceIte, decide_true, decide_false, Bool.false_eq_true]; simp only []; done) | (simp only [if_true, if_false, true_and, and_true, false_and, and_false, true_or, or_true, false_or, or_false, not_true_eq_false, not_false_eq_true, reduceIte, decide_true, decide_false, Bool.false_eq_true]; rfl) | (simp only []; simp only [if_true, if_false, true_and, and_true, false_and, and_false, true_or, or_true, false_or, or_false, not_true_eq_false, not_false_eq_true, reduceIte, decide_true, decide_false, Bool.false_eq_true]; rfl) | (simp only []; rfl) | (simp only [if_true, if_false, true_and, and_true, false_and, and_false, true_or, or_true, false_or, or_false, not_true_eq_false, not_false_eq_true, reduceIte, decide_true, decide_false, Bool.false_eq_true]; rfl) | (simp_all []; done))), (gFr.refl.trans (hF7.mono (by intro b t hb; exact absurd hb List.not_mem_nil))), (by first | exact Nat.le_zero.mp hk9 | omega)⟩) dJ1_listIterator_5 (Nat.le_of_ble_eq_true rfl) (Nat.le_of_ble_eq_true rfl)
set_option maxHeartbeats 4000000 in
theorem met_LL_it_0 (l : Launch) (G : gG) (M : gM) (b : Nat) (t0 : Nat × Nat) (t1 : Nat × Nat) (mc : Int32)  (hM_0 : M b = some (t0, .inr (17, [.int mc, .int (nI 0), .null, .null]))) : Met l yJ2_iterator (ws_ yJ2_iterator cJ2_iterator 1 (some (.object "java/util/Iterator"))) ({ frames := 6, cells := 1, slots := 5, locals := 150 }) (gPc G [.ref b] M) (gQq G (fun r9 M9 k9 => ∃ i9 : Nat, r9 = (some i9) ∧ M9 i9 = some ((9, 0), .inr (19, [.null, .null, .int 0, .int mc, .ref b])) ∧ gFr (gL []) M M9 ∧ k9 ≤ 1)) 1 5 (gA G) := by
  refine gMet [(0, .ref b)] (by decide) (Nat.le_of_ble_eq_true rfl) rfl ?_
  intro p e s m below meth c hC
  refine g_aload_n hC dJ2_iterator_0 0 rfl gRef_r 1 rfl ?_
  refine g_callq (g_U (n := 0) (As := []) (rest := []) hC ⟨q1882, q1884, q1885, q105, q1886, (Or.inl rfl), by decide +kernel⟩ q1881 (gOf.of hC.K cI17 hM_0) (met_LL_al_0 l G M b t0 t1 mc hM_0) ⟨rfl, rfl⟩ ⟨(Nat.le_of_ble_eq_true rfl), (Nat.le_of_ble_eq_true rfl)⟩ rfl (Nat.le_of_ble_eq_true rfl) dJ2_iterator_1 rfl ⟨(Nat.le_of_ble_eq_true rfl), (Nat.le_of_ble_eq_true rfl)⟩) 1 (Nat.le_of_ble_eq_true rfl) 5 (Nat.le_of_ble_eq_true rfl) 4 rfl (fun r4 M1 k2 hp3 => ?_)
  obtain ⟨i9_5, rfl, hc6, hF7, hk8⟩ := hp3
  exact g_aret (v := some i9_5) hC (by first | exact Or.inl ⟨_, rfl⟩ | exact Or.inr ⟨_, rfl⟩) (fun k9 hk9 => ⟨i9_5, rfl, (by rw [hc6]; all_goals (first | rfl | (simp only [if_true, if_false, true_and, and_true, false_and, and_false, true_or, or_true, false_or, or_false, not_true_eq_false, not_false_eq_true, reduceIte, decide_true, decide_false, Bool.false_eq_true]; done) | (simp only [if_true, if_false, true_and, and_true, false_and, and_false, true_or, or_true, false_or, or_false, not_true_eq_false, not_false_eq_true, reduceIte, decide_true, decide_false, Bool.false_eq_true]; rfl) | (simp only [if_true, if_false, true_and, and_true, false_and, and_false, true_or, or_true, false_or, or_false, not_true_eq_false, not_false_eq_true, reduceIte, decide_true, decide_false, Bool.false_eq_true]; done) | (simp only []; simp only [if_true, if_false, true_and, and_true, false_and, and_false, true_or, or_true, false_or, or_false, not_true_eq_false, not_false_eq_true, reduceIte, decide_true, decide_false, Bool.false_eq_true]; done) | (simp only []; simp only [if_true, if_false, true_and, and_true, false_and, and_false, true_or, or_true, false_or, or_false, not_true_eq_false, not_false_eq_true, reduceIte, decide_true, decide_false, Bool.false_eq_true]; done) | (simp only []; simp only [if_true, if_false, true_and, and_true, false_and, and_false, true_or, or_true, false_or, or_false, not_true_eq_false, not_false_eq_true, reduceIte, decide_true, decide_false, Bool.false_eq_true]; simp only []; done) | (simp only [if_true, if_false, true_and, and_true, false_and, and_false, true_or, or_true, false_or, or_false, not_true_eq_false, not_false_eq_true, reduceIte, decide_true, decide_false, Bool.false_eq_true]; rfl) | (simp only []; simp only [if_true, if_false, true_and, and_true, false_and, and_false, true_or, or_true, false_or, or_false, not_true_eq_false, not_false_eq_true, reduceIte, decide_true, decide_false, Bool.false_eq_true]; rfl) | (simp only []; rfl) | (simp only [if_true, if_false, true_and, and_true, false_and, and_false, true_or, or_true, false_or, or_false, not_true_eq_false, not_false_eq_true, reduceIte, decide_true, decide_false, Bool.false_eq_true]; rfl) | (simp_all []; done))), (gFr.refl.trans (hF7.mono (by intro b t hb; exact absurd hb List.not_mem_nil))), (by first | exact Nat.le_zero.mp hk9 | omega)⟩) dJ2_iterator_4 (Nat.le_of_ble_eq_true rfl) (Nat.le_of_ble_eq_true rfl)
set_option maxHeartbeats 4000000 in
theorem met_LLi_init_1 (l : Launch) (G : gG) (M : gM) (b : Nat) (t0 : Nat × Nat) (t1 : Nat × Nat) (mc : Int32) (n : Nat) (fi : Nat) (la : Nat) (i9 : Nat) (hn : 1 ≤ n) (hn8 : n ≤ 8) (h1 : n = 1 → la = fi) (hM_0 : M b = some (t0, .inr (17, [.int mc, .int (nI n), .ref fi, .ref la]))) (hM_1 : M i9 = some ((9, 0), .inr (19, [.null, .null, .int 0, .int 0, .null]))) : Met l yJ34_init (ws_ yJ34_init cJ34_init 3 none) ({ frames := 2, cells := 0, slots := 0, locals := 60 }) (gPc G [.ref i9, .ref b, .int 0] M) (gQv G (fun M9 k9 => M9 i9 = some ((9, 0), .inr (19, [.null, .ref fi, .int 0, .int mc, .ref b])) ∧ gFr (gL [i9]) M M9 ∧ k9 = 0)) 0 0 (gA G) := by
  refine gMet [(0, .ref i9), (1, .ref b), (2, .int 0)] (by decide) (Nat.le_of_ble_eq_true rfl) rfl ?_
  intro p e s m below meth c hC
  refine g_aload_n hC dJ34_init_0 0 rfl gRef_r 1 rfl ?_
  refine g_aload_n hC dJ34_init_1 1 rfl gRef_r 2 rfl ?_
  refine g_putF hC cI19 hM_1 4 (Nat.le_of_ble_eq_true rfl) q1947 rfl rfl rfl rfl (Nat.le_of_ble_eq_true rfl) dJ34_init_2 (fs' := [.null, .null, .int 0, .int 0, .ref b]) rfl 5 rfl (fun M1 hU2 => ?_)
  refine g_aload_n hC dJ34_init_5 0 rfl gRef_r 6 rfl ?_
  refine g_objInit hC q1941 q176 q177 dJ34_init_6 (Nat.le_of_ble_eq_true rfl) (Nat.le_of_ble_eq_true rfl) 9 rfl ?_
  refine g_aload_n hC dJ34_init_9 0 rfl gRef_r 10 rfl ?_
  refine g_aload_n hC dJ34_init_10 0 rfl gRef_r 11 rfl ?_
  refine g_get (v := .ref b) hC cI19 hU2.1 4 (Nat.le_of_ble_eq_true rfl) q1947 rfl dJ34_init_11 14 rfl ?_
  refine g_getU (v := .int mc) hC cI17 (hU2.n (gne_c hM_0 hM_1 (by decide)) hM_0) 0 (Nat.le_of_ble_eq_true rfl) q206 q207 rfl dJ34_init_14 17 rfl ?_
  refine g_put hC cI19 hU2.1 3 (Nat.le_of_ble_eq_true rfl) q1946 rfl rfl rfl (Nat.le_of_ble_eq_true rfl) dJ34_init_17 (fs' := [.null, .null, .int 0, .int mc, .ref b]) rfl 20 rfl (fun M3 hU4 => ?_)
  refine g_aload_n hC dJ34_init_20 0 rfl gRef_r 21 rfl ?_
  refine g_iload_n hC dJ34_init_21 2 rfl 22 rfl ?_
  refine g_aload_n hC dJ34_init_22 1 rfl gRef_r 23 rfl ?_
  refine g_get (v := .int (nI n)) hC cI17 (hU4.n (gne_c (hU2.n (gne_c hM_0 hM_1 (by decide)) hM_0) hU2.1 (by decide)) (hU2.n (gne_c hM_0 hM_1 (by decide)) hM_0)) 1 (Nat.le_of_ble_eq_true rfl) q202 rfl dJ34_init_23 26 rfl ?_
  refine g_icmp_ne hC dJ34_init_26 33 rfl 29 rfl (fun c_5 => ?_) (fun c_5 => ?_)
  · replace c_5 : ¬ 0 = n := nn_neq (by omega) (by omega) c_5
    refine g_aload_n hC dJ34_init_33 1 rfl gRef_r 34 rfl ?_
    refine g_iload_n hC dJ34_init_34 2 rfl 35 rfl ?_
    refine g_callqP (g_V (As := [.int 0]) (rest := [.ref i9]) hC mvJ3_node q1942 (gOf.of hC.K cI17 (hU4.n (gne_c (hU2.n (gne_c hM_0 hM_1 (by decide)) hM_0) hU2.1 (by decide)) (hU2.n (gne_c hM_0 hM_1 (by decide)) hM_0))) (met_LL_node l G M3 b t0 t1 mc n fi la hn hn8 h1 (hU4.n (gne_c (hU2.n (gne_c hM_0 hM_1 (by decide)) hM_0) hU2.1 (by decide)) (hU2.n (gne_c hM_0 hM_1 (by decide)) hM_0))) ⟨rfl, rfl⟩ ⟨(Nat.le_of_ble_eq_true rfl), (Nat.le_of_ble_eq_true rfl)⟩ rfl (Nat.le_of_ble_eq_true rfl) dJ34_init_35 rfl ⟨(Nat.le_of_ble_eq_true rfl), (Nat.le_of_ble_eq_true rfl)⟩) 38 rfl 0 (Nat.le_of_ble_eq_true rfl) ?_
    refine g_put hC cI19 hU4.1 1 (Nat.le_of_ble_eq_true rfl) q1944 rfl rfl rfl (Nat.le_of_ble_eq_true rfl) dJ34_init_38 (fs' := [.null, .ref fi, .int 0, .int mc, .ref b]) rfl 41 rfl (fun M6 hU7 => ?_)
    have hH8 := (hU7.n (gne_c (hU4.n (gne_c (hU2.n (gne_c hM_0 hM_1 (by decide)) hM_0) hU2.1 (by decide)) (hU2.n (gne_c hM_0 hM_1 (by decide)) hM_0)) hU4.1 (by decide)) (hU4.n (gne_c (hU2.n (gne_c hM_0 hM_1 (by decide)) hM_0) hU2.1 (by decide)) (hU2.n (gne_c hM_0 hM_1 (by decide)) hM_0)))
    refine g_aload_n hC dJ34_init_41 0 rfl gRef_r 42 rfl ?_
    refine g_iload_n hC dJ34_init_42 2 rfl 43 rfl ?_
    refine g_put hC cI19 hU7.1 2 (Nat.le_of_ble_eq_true rfl) q1945 rfl rfl rfl (Nat.le_of_ble_eq_true rfl) dJ34_init_43 (fs' := [.null, .ref fi, .int 0, .int mc, .ref b]) rfl 46 rfl (fun M9 hU10 => ?_)
    exact g_vret hC (fun k9 hk9 => ⟨hU10.1, ((((gFr.refl.up hU2 hM_1 (by simp)).up hU4 hU2.1 (by simp)).up hU7 hU4.1 (by simp)).up hU10 hU7.1 (by simp)), (by first | exact Nat.le_zero.mp hk9 | omega)⟩) dJ34_init_46 (Nat.le_of_ble_eq_true rfl) (Nat.le_of_ble_eq_true rfl)
  · replace c_5 : 0 = n := nn_eq (by omega) (by omega) c_5
    exact absurd c_5 (by omega)
set_option maxHeartbeats 4000000 in
theorem met_LL_li_1 (l : Launch) (G : gG) (M : gM) (b : Nat) (t0 : Nat × Nat) (t1 : Nat × Nat) (mc : Int32) (n : Nat) (fi : Nat) (la : Nat) (hn : 1 ≤ n) (hn8 : n ≤ 8) (h1 : n = 1 → la = fi) (hM_0 : M b = some (t0, .inr (17, [.int mc, .int (nI n), .ref fi, .ref la]))) : Met l yJ3_listIterator (ws_ yJ3_listIterator cJ3_listIterator 2 (some (.object "java/util/ListIterator"))) ({ frames := 4, cells := 1, slots := 5, locals := 100 }) (gPc G [.ref b, .int 0] M) (gQq G (fun r9 M9 k9 => ∃ i9 : Nat, r9 = (some i9) ∧ M9 i9 = some ((9, 0), .inr (19, [.null, .ref fi, .int 0, .int mc, .ref b])) ∧ gFr (gL []) M M9 ∧ k9 ≤ 1)) 1 5 (gA G) := by
  refine gMet [(0, .ref b), (1, .int 0)] (by decide) (Nat.le_of_ble_eq_true rfl) rfl ?_
  intro p e s m below meth c hC
  refine g_aload_n hC dJ3_listIterator_0 0 rfl gRef_r 1 rfl ?_
  refine g_iload_n hC dJ3_listIterator_1 1 rfl 2 rfl ?_
  refine g_callvP (g_V (As := [.int 0]) (rest := []) hC mvJ3_checkPositionIndex q1928 (gOf.of hC.K cI17 hM_0) (met_LL_chkPos l G M b t0 t1 mc n (some fi) (some la) hn8 hM_0) ⟨rfl, rfl⟩ ⟨(Nat.le_of_ble_eq_true rfl), (Nat.le_of_ble_eq_true rfl)⟩ rfl (Nat.le_of_ble_eq_true rfl) dJ3_listIterator_2 rfl ⟨(Nat.le_of_ble_eq_true rfl), (Nat.le_of_ble_eq_true rfl)⟩) 5 rfl 0 (Nat.le_of_ble_eq_true rfl) ?_
  refine g_new hC cI19 q1936 q1937 q152 df19 (9, 0) (Nat.le_of_ble_eq_true rfl) (Nat.le_of_ble_eq_true rfl) 1 (Nat.le_of_ble_eq_true rfl) 5 (Nat.le_of_ble_eq_true rfl) dJ3_listIterator_5 8 rfl (fun a1 M2 hN3 => ?_)
  refine g_dup hC dJ3_listIterator_8 rfl 9 rfl ?_
  refine g_aload_n hC dJ3_listIterator_9 0 rfl gRef_r 10 rfl ?_
  refine g_iload_n hC dJ3_listIterator_10 1 rfl 11 rfl ?_
  refine g_callv (g_I (As := [.ref b, .int 0]) (rest := [.ref a1]) hC miJ34_init q1938 (met_LLi_init_1 l G M2 b t0 t1 mc n fi la a1 hn hn8 h1 (hN3.n hM_0) hN3.2.1) ⟨rfl, rfl⟩ ⟨(Nat.le_of_ble_eq_true rfl), (Nat.le_of_ble_eq_true rfl)⟩ rfl (Nat.le_of_ble_eq_true rfl) dJ3_listIterator_11 rfl ⟨(Nat.le_of_ble_eq_true rfl), (Nat.le_of_ble_eq_true rfl)⟩) 1 (Nat.le_of_ble_eq_true rfl) 5 (Nat.le_of_ble_eq_true rfl) 14 rfl (fun M4 k5 hp6 => ?_)
  obtain ⟨hc8, hF9, hk10⟩ := hp6
  exact g_aret (v := some a1) hC (by first | exact Or.inl ⟨_, rfl⟩ | exact Or.inr ⟨_, rfl⟩) (fun k9 hk9 => ⟨a1, rfl, (by rw [hc8]; all_goals (first | rfl | (simp only [if_true, if_false, true_and, and_true, false_and, and_false, true_or, or_true, false_or, or_false, not_true_eq_false, not_false_eq_true, reduceIte, decide_true, decide_false, Bool.false_eq_true]; done) | (simp only [if_true, if_false, true_and, and_true, false_and, and_false, true_or, or_true, false_or, or_false, not_true_eq_false, not_false_eq_true, reduceIte, decide_true, decide_false, Bool.false_eq_true]; rfl) | (simp only [if_true, if_false, true_and, and_true, false_and, and_false, true_or, or_true, false_or, or_false, not_true_eq_false, not_false_eq_true, reduceIte, decide_true, decide_false, Bool.false_eq_true]; done) | (simp only []; simp only [if_true, if_false, true_and, and_true, false_and, and_false, true_or, or_true, false_or, or_false, not_true_eq_false, not_false_eq_true, reduceIte, decide_true, decide_false, Bool.false_eq_true]; done) | (simp only []; simp only [if_true, if_false, true_and, and_true, false_and, and_false, true_or, or_true, false_or, or_false, not_true_eq_false, not_false_eq_true, reduceIte, decide_true, decide_false, Bool.false_eq_true]; done) | (simp only []; simp only [if_true, if_false, true_and, and_true, false_and, and_false, true_or, or_true, false_or, or_false, not_true_eq_false, not_false_eq_true, reduceIte, decide_true, decide_false, Bool.false_eq_true]; simp only []; done) | (simp only [if_true, if_false, true_and, and_true, false_and, and_false, true_or, or_true, false_or, or_false, not_true_eq_false, not_false_eq_true, reduceIte, decide_true, decide_false, Bool.false_eq_true]; rfl) | (simp only []; simp only [if_true, if_false, true_and, and_true, false_and, and_false, true_or, or_true, false_or, or_false, not_true_eq_false, not_false_eq_true, reduceIte, decide_true, decide_false, Bool.false_eq_true]; rfl) | (simp only []; rfl) | (simp only [if_true, if_false, true_and, and_true, false_and, and_false, true_or, or_true, false_or, or_false, not_true_eq_false, not_false_eq_true, reduceIte, decide_true, decide_false, Bool.false_eq_true]; rfl) | (simp_all []; done))), ((gFr.refl.nw hN3).trf hF9 (fun b t e hb hn => (gno (hN3.ne (gFr.refl b t e hb hn)) gno0))), (by first | exact Nat.le_zero.mp hk9 | omega)⟩) dJ3_listIterator_14 (Nat.le_of_ble_eq_true rfl) (Nat.le_of_ble_eq_true rfl)
set_option maxHeartbeats 4000000 in
theorem met_LL_al_1 (l : Launch) (G : gG) (M : gM) (b : Nat) (t0 : Nat × Nat) (t1 : Nat × Nat) (mc : Int32) (n : Nat) (fi : Nat) (la : Nat) (hn : 1 ≤ n) (hn8 : n ≤ 8) (h1 : n = 1 → la = fi) (hM_0 : M b = some (t0, .inr (17, [.int mc, .int (nI n), .ref fi, .ref la]))) : Met l yJ1_listIterator (ws_ yJ1_listIterator cJ1_listIterator 1 (some (.object "java/util/ListIterator"))) ({ frames := 5, cells := 1, slots := 5, locals := 125 }) (gPc G [.ref b] M) (gQq G (fun r9 M9 k9 => ∃ i9 : Nat, r9 = (some i9) ∧ M9 i9 = some ((9, 0), .inr (19, [.null, .ref fi, .int 0, .int mc, .ref b])) ∧ gFr (gL []) M M9 ∧ k9 ≤ 1)) 1 5 (gA G) := by
  refine gMet [(0, .ref b)] (by decide) (Nat.le_of_ble_eq_true rfl) rfl ?_
  intro p e s m below meth c hC
  refine g_aload_n hC dJ1_listIterator_0 0 rfl gRef_r 1 rfl ?_
  refine g_iconst hC dJ1_listIterator_1 ki_0 2 rfl ?_
  refine g_callq (g_U (n := 1) (As := [.int 0]) (rest := []) hC ⟨q1889, q1925, q1926, q107, q1927, (Or.inr q1959), by decide +kernel⟩ q1887 (gOf.of hC.K cI17 hM_0) (met_LL_li_1 l G M b t0 t1 mc n fi la hn hn8 h1 hM_0) ⟨rfl, rfl⟩ ⟨(Nat.le_of_ble_eq_true rfl), (Nat.le_of_ble_eq_true rfl)⟩ rfl (Nat.le_of_ble_eq_true rfl) dJ1_listIterator_2 rfl ⟨(Nat.le_of_ble_eq_true rfl), (Nat.le_of_ble_eq_true rfl)⟩) 1 (Nat.le_of_ble_eq_true rfl) 5 (Nat.le_of_ble_eq_true rfl) 5 rfl (fun r4 M1 k2 hp3 => ?_)
  obtain ⟨i9_5, rfl, hc6, hF7, hk8⟩ := hp3
  exact g_aret (v := some i9_5) hC (by first | exact Or.inl ⟨_, rfl⟩ | exact Or.inr ⟨_, rfl⟩) (fun k9 hk9 => ⟨i9_5, rfl, (by rw [hc6]; all_goals (first | rfl | (simp only [if_true, if_false, true_and, and_true, false_and, and_false, true_or, or_true, false_or, or_false, not_true_eq_false, not_false_eq_true, reduceIte, decide_true, decide_false, Bool.false_eq_true]; done) | (simp only [if_true, if_false, true_and, and_true, false_and, and_false, true_or, or_true, false_or, or_false, not_true_eq_false, not_false_eq_true, reduceIte, decide_true, decide_false, Bool.false_eq_true]; rfl) | (simp only [if_true, if_false, true_and, and_true, false_and, and_false, true_or, or_true, false_or, or_false, not_true_eq_false, not_false_eq_true, reduceIte, decide_true, decide_false, Bool.false_eq_true]; done) | (simp only []; simp only [if_true, if_false, true_and, and_true, false_and, and_false, true_or, or_true, false_or, or_false, not_true_eq_false, not_false_eq_true, reduceIte, decide_true, decide_false, Bool.false_eq_true]; done) | (simp only []; simp only [if_true, if_false, true_and, and_true, false_and, and_false, true_or, or_true, false_or, or_false, not_true_eq_false, not_false_eq_true, reduceIte, decide_true, decide_false, Bool.false_eq_true]; done) | (simp only []; simp only [if_true, if_false, true_and, and_true, false_and, and_false, true_or, or_true, false_or, or_false, not_true_eq_false, not_false_eq_true, reduceIte, decide_true, decide_false, Bool.false_eq_true]; simp only []; done) | (simp only [if_true, if_false, true_and, and_true, false_and, and_false, true_or, or_true, false_or, or_false, not_true_eq_false, not_false_eq_true, reduceIte, decide_true, decide_false, Bool.false_eq_true]; rfl) | (simp only []; simp only [if_true, if_false, true_and, and_true, false_and, and_false, true_or, or_true, false_or, or_false, not_true_eq_false, not_false_eq_true, reduceIte, decide_true, decide_false, Bool.false_eq_true]; rfl) | (simp only []; rfl) | (simp only [if_true, if_false, true_and, and_true, false_and, and_false, true_or, or_true, false_or, or_false, not_true_eq_false, not_false_eq_true, reduceIte, decide_true, decide_false, Bool.false_eq_true]; rfl) | (simp_all []; done))), (gFr.refl.trans (hF7.mono (by intro b t hb; exact absurd hb List.not_mem_nil))), (by first | exact Nat.le_zero.mp hk9 | omega)⟩) dJ1_listIterator_5 (Nat.le_of_ble_eq_true rfl) (Nat.le_of_ble_eq_true rfl)
set_option maxHeartbeats 4000000 in
theorem met_LL_it_1 (l : Launch) (G : gG) (M : gM) (b : Nat) (t0 : Nat × Nat) (t1 : Nat × Nat) (mc : Int32) (n : Nat) (fi : Nat) (la : Nat) (hn : 1 ≤ n) (hn8 : n ≤ 8) (h1 : n = 1 → la = fi) (hM_0 : M b = some (t0, .inr (17, [.int mc, .int (nI n), .ref fi, .ref la]))) : Met l yJ2_iterator (ws_ yJ2_iterator cJ2_iterator 1 (some (.object "java/util/Iterator"))) ({ frames := 6, cells := 1, slots := 5, locals := 150 }) (gPc G [.ref b] M) (gQq G (fun r9 M9 k9 => ∃ i9 : Nat, r9 = (some i9) ∧ M9 i9 = some ((9, 0), .inr (19, [.null, .ref fi, .int 0, .int mc, .ref b])) ∧ gFr (gL []) M M9 ∧ k9 ≤ 1)) 1 5 (gA G) := by
  refine gMet [(0, .ref b)] (by decide) (Nat.le_of_ble_eq_true rfl) rfl ?_
  intro p e s m below meth c hC
  refine g_aload_n hC dJ2_iterator_0 0 rfl gRef_r 1 rfl ?_
  refine g_callq (g_U (n := 0) (As := []) (rest := []) hC ⟨q1882, q1884, q1885, q105, q1886, (Or.inl rfl), by decide +kernel⟩ q1881 (gOf.of hC.K cI17 hM_0) (met_LL_al_1 l G M b t0 t1 mc n fi la hn hn8 h1 hM_0) ⟨rfl, rfl⟩ ⟨(Nat.le_of_ble_eq_true rfl), (Nat.le_of_ble_eq_true rfl)⟩ rfl (Nat.le_of_ble_eq_true rfl) dJ2_iterator_1 rfl ⟨(Nat.le_of_ble_eq_true rfl), (Nat.le_of_ble_eq_true rfl)⟩) 1 (Nat.le_of_ble_eq_true rfl) 5 (Nat.le_of_ble_eq_true rfl) 4 rfl (fun r4 M1 k2 hp3 => ?_)
  obtain ⟨i9_5, rfl, hc6, hF7, hk8⟩ := hp3
  exact g_aret (v := some i9_5) hC (by first | exact Or.inl ⟨_, rfl⟩ | exact Or.inr ⟨_, rfl⟩) (fun k9 hk9 => ⟨i9_5, rfl, (by rw [hc6]; all_goals (first | rfl | (simp only [if_true, if_false, true_and, and_true, false_and, and_false, true_or, or_true, false_or, or_false, not_true_eq_false, not_false_eq_true, reduceIte, decide_true, decide_false, Bool.false_eq_true]; done) | (simp only [if_true, if_false, true_and, and_true, false_and, and_false, true_or, or_true, false_or, or_false, not_true_eq_false, not_false_eq_true, reduceIte, decide_true, decide_false, Bool.false_eq_true]; rfl) | (simp only [if_true, if_false, true_and, and_true, false_and, and_false, true_or, or_true, false_or, or_false, not_true_eq_false, not_false_eq_true, reduceIte, decide_true, decide_false, Bool.false_eq_true]; done) | (simp only []; simp only [if_true, if_false, true_and, and_true, false_and, and_false, true_or, or_true, false_or, or_false, not_true_eq_false, not_false_eq_true, reduceIte, decide_true, decide_false, Bool.false_eq_true]; done) | (simp only []; simp only [if_true, if_false, true_and, and_true, false_and, and_false, true_or, or_true, false_or, or_false, not_true_eq_false, not_false_eq_true, reduceIte, decide_true, decide_false, Bool.false_eq_true]; done) | (simp only []; simp only [if_true, if_false, true_and, and_true, false_and, and_false, true_or, or_true, false_or, or_false, not_true_eq_false, not_false_eq_true, reduceIte, decide_true, decide_false, Bool.false_eq_true]; simp only []; done) | (simp only [if_true, if_false, true_and, and_true, false_and, and_false, true_or, or_true, false_or, or_false, not_true_eq_false, not_false_eq_true, reduceIte, decide_true, decide_false, Bool.false_eq_true]; rfl) | (simp only []; simp only [if_true, if_false, true_and, and_true, false_and, and_false, true_or, or_true, false_or, or_false, not_true_eq_false, not_false_eq_true, reduceIte, decide_true, decide_false, Bool.false_eq_true]; rfl) | (simp only []; rfl) | (simp only [if_true, if_false, true_and, and_true, false_and, and_false, true_or, or_true, false_or, or_false, not_true_eq_false, not_false_eq_true, reduceIte, decide_true, decide_false, Bool.false_eq_true]; rfl) | (simp_all []; done))), (gFr.refl.trans (hF7.mono (by intro b t hb; exact absurd hb List.not_mem_nil))), (by first | exact Nat.le_zero.mp hk9 | omega)⟩) dJ2_iterator_4 (Nat.le_of_ble_eq_true rfl) (Nat.le_of_ble_eq_true rfl)
theorem llZ_len : (D : List dsE) → (x : Nat) → ∃ la, llZ (some x) D = some la ∧ (D.length = 0 → la = x)
  | [], x => ⟨x, rfl, fun _ => rfl⟩
  | e :: D, x => by
    obtain ⟨la, h1, -⟩ := llZ_len D e.1
    exact ⟨la, h1, fun h => absurd h (by simp)⟩
set_option maxHeartbeats 4000000 in
theorem met_LL_iterator (l : Launch) (G : gG) (M : gM) (b : Nat) (t0 : Nat × Nat) (t1 : Nat × Nat) (mc : Int32) (D : List dsE) (hD : D.length ≤ 8) (hM_0 : M b = some (t0, .inr (17, [.int mc, .int (nI D.length), va_rf (llN D none), va_rf (llZ none D)]))) : Met l yJ2_iterator (ws_ yJ2_iterator cJ2_iterator 1 (some (.object "java/util/Iterator"))) ({ frames := 6, cells := 1, slots := 5, locals := 150 }) (gPc G [.ref b] M) (gQq G (fun r9 M9 k9 => ∃ i9 : Nat, r9 = (some i9) ∧ M9 i9 = some ((9, 0), .inr (19, [.null, va_rf (llN D none), .int 0, .int mc, .ref b])) ∧ gFr (gL []) M M9 ∧ k9 ≤ 1)) 1 5 (gA G) := by
  rcases D with _ | ⟨e, D⟩
  · exact met_LL_it_0 l G M b t0 t1 mc hM_0
  · obtain ⟨la, h1, h2⟩ := llZ_len D e.1
    have hM0' : M b = some (t0, .inr (17, [.int mc, .int (nI (D.length + 1)), .ref e.1, .ref la])) := by rw [hM_0]; show some (t0, Sum.inr (17, [.int mc, .int (nI (D.length + 1)), .ref e.1, va_rf (llZ (some e.1) D)])) = _; rw [h1]; rfl
    simp only [List.length_cons] at hD
    exact met_LL_it_1 l G M b t0 t1 mc (D.length + 1) e.1 la (by omega) (by omega) (fun q => h2 (by omega)) hM0'
set_option maxHeartbeats 4000000 in
theorem met_LLi_hasNext (l : Launch) (G : gG) (M : gM) (b : Nat) (t0 : Nat × Nat) (t1 : Nat × Nat) (mc : Int32) (n : Nat) (fi : Option Nat) (la : Option Nat) (i9 : Nat) (i : Nat) (lr : Option Nat) (nx : Option Nat) (hn8 : n ≤ 8) (hi8 : i ≤ 8) (hM_0 : M i9 = some ((9, 0), .inr (19, [va_rf lr, va_rf nx, .int (nI i), .int mc, .ref b]))) (hM_1 : M b = some (t0, .inr (17, [.int mc, .int (nI n), va_rf fi, va_rf la]))) : Met l yJ34_hasNext (ws_ yJ34_hasNext cJ34_hasNext 1 (some .boolean)) ({ frames := 0, cells := 0, slots := 0, locals := 0 }) (gPc G [.ref i9] M) (gQi G (fun r9 M9 k9 => r9 = (bI (decide (i < n))) ∧ M9 = M ∧ k9 = 0)) 0 0 (gA G) := by
  refine gMet [(0, .ref i9)] (by decide) (Nat.le_of_ble_eq_true rfl) rfl ?_
  intro p e s m below meth c hC
  refine g_aload_n hC dJ34_hasNext_0 0 rfl gRef_r 1 rfl ?_
  refine g_get (v := .int (nI i)) hC cI19 hM_0 2 (Nat.le_of_ble_eq_true rfl) q1945 rfl dJ34_hasNext_1 4 rfl ?_
  refine g_aload_n hC dJ34_hasNext_4 0 rfl gRef_r 5 rfl ?_
  refine g_get (v := .ref b) hC cI19 hM_0 4 (Nat.le_of_ble_eq_true rfl) q1947 rfl dJ34_hasNext_5 8 rfl ?_
  refine g_get (v := .int (nI n)) hC cI17 hM_1 1 (Nat.le_of_ble_eq_true rfl) q202 rfl dJ34_hasNext_8 11 rfl ?_
  refine g_icmp_ge hC dJ34_hasNext_11 18 rfl 14 rfl (fun c_1 => ?_) (fun c_1 => ?_)
  · replace c_1 : n ≤ i := nn_le (by omega) (by omega) c_1
    refine g_iconst hC dJ34_hasNext_18 ki_0 19 rfl ?_
    exact g_zret (v := 0) hC (by decide) (fun k9 hk9 => ⟨(bI_nd (by omega)), rfl, Nat.le_zero.mp hk9⟩) dJ34_hasNext_19 (Nat.le_of_ble_eq_true rfl) (Nat.le_of_ble_eq_true rfl)
  · replace c_1 : i < n := nn_nle (by omega) (by omega) c_1
    refine g_iconst hC dJ34_hasNext_14 ki_1 15 rfl ?_
    refine g_goto hC dJ34_hasNext_15 19 rfl ?_
    exact g_zret (v := 1) hC (by decide) (fun k9 hk9 => ⟨(bI_d (by omega)), rfl, Nat.le_zero.mp hk9⟩) dJ34_hasNext_19 (Nat.le_of_ble_eq_true rfl) (Nat.le_of_ble_eq_true rfl)
set_option maxHeartbeats 4000000 in
theorem met_LLi_chk (l : Launch) (G : gG) (M : gM) (b : Nat) (t0 : Nat × Nat) (t1 : Nat × Nat) (mc : Int32) (n : Nat) (fi : Option Nat) (la : Option Nat) (i9 : Nat) (i : Nat) (lr : Option Nat) (nx : Option Nat) (hn8 : n ≤ 8) (hi8 : i ≤ 8) (hM_0 : M i9 = some ((9, 0), .inr (19, [va_rf lr, va_rf nx, .int (nI i), .int mc, .ref b]))) (hM_1 : M b = some (t0, .inr (17, [.int mc, .int (nI n), va_rf fi, va_rf la]))) : Met l yJ34_checkForComodification (ws_ yJ34_checkForComodification cJ34_checkForComodification 1 none) ({ frames := 0, cells := 0, slots := 0, locals := 0 }) (gPc G [.ref i9] M) (gQv G (fun M9 k9 => M9 = M ∧ k9 = 0)) 0 0 (gA G) := by
  refine gMet [(0, .ref i9)] (by decide) (Nat.le_of_ble_eq_true rfl) rfl ?_
  intro p e s m below meth c hC
  refine g_aload_n hC dJ34_checkForComodification_0 0 rfl gRef_r 1 rfl ?_
  refine g_get (v := .ref b) hC cI19 hM_0 4 (Nat.le_of_ble_eq_true rfl) q1947 rfl dJ34_checkForComodification_1 4 rfl ?_
  refine g_getU (v := .int mc) hC cI17 hM_1 0 (Nat.le_of_ble_eq_true rfl) q206 q207 rfl dJ34_checkForComodification_4 7 rfl ?_
  refine g_aload_n hC dJ34_checkForComodification_7 0 rfl gRef_r 8 rfl ?_
  refine g_get (v := .int mc) hC cI19 hM_0 3 (Nat.le_of_ble_eq_true rfl) q1946 rfl dJ34_checkForComodification_8 11 rfl ?_
  refine g_icmp_eq hC dJ34_checkForComodification_11 22 rfl 14 rfl (fun c_1 => ?_) (fun c_1 => ?_)
  · exact g_vret hC (fun k9 hk9 => ⟨rfl, Nat.le_zero.mp hk9⟩) dJ34_checkForComodification_22 (Nat.le_of_ble_eq_true rfl) (Nat.le_of_ble_eq_true rfl)
  · exact absurd rfl c_1
set_option maxHeartbeats 4000000 in
theorem met_LLi_next0 (l : Launch) (G : gG) (M : gM) (b : Nat) (t0 : Nat × Nat) (t1 : Nat × Nat) (mc : Int32) (n : Nat) (fi : Option Nat) (la : Option Nat) (i9 : Nat) (i : Nat) (lr : Option Nat) (x : Nat) (ix : Nat) (nx : Option Nat) (px : Option Nat) (hn8 : n ≤ 8) (hi8 : i ≤ 8) (hi : i < n) (hM_0 : M i9 = some ((9, 0), .inr (19, [va_rf lr, .ref x, .int (nI i), .int mc, .ref b]))) (hM_1 : M b = some (t0, .inr (17, [.int mc, .int (nI n), va_rf fi, va_rf la]))) (hM_2 : M x = some (t1, .inr (18, [.ref ix, va_rf nx, va_rf px]))) : Met l yJ34_next (ws_ yJ34_next cJ34_next 1 (some (.object "java/lang/Object"))) ({ frames := 1, cells := 0, slots := 0, locals := 20 }) (gPc G [.ref i9] M) (gQq G (fun r9 M9 k9 => r9 = (some ix) ∧ M9 i9 = some ((9, 0), .inr (19, [.ref x, va_rf nx, .int (nI (i + 1)), .int mc, .ref b])) ∧ gFr (gL [i9]) M M9 ∧ k9 = 0)) 0 0 (gA G) := by
  refine gMet [(0, .ref i9)] (by decide) (Nat.le_of_ble_eq_true rfl) rfl ?_
  intro p e s m below meth c hC
  refine g_aload_n hC dJ34_next_0 0 rfl gRef_r 1 rfl ?_
  refine g_callvP (g_V (As := []) (rest := []) hC mvJ34_checkForComodification q1711 (gOf.of hC.K cI19 hM_0) (met_LLi_chk l G M b t0 t1 mc n fi la i9 i lr (some x) hn8 hi8 hM_0 hM_1) ⟨rfl, rfl⟩ ⟨(Nat.le_of_ble_eq_true rfl), (Nat.le_of_ble_eq_true rfl)⟩ rfl (Nat.le_of_ble_eq_true rfl) dJ34_next_1 rfl ⟨(Nat.le_of_ble_eq_true rfl), (Nat.le_of_ble_eq_true rfl)⟩) 4 rfl 0 (Nat.le_of_ble_eq_true rfl) ?_
  refine g_aload_n hC dJ34_next_4 0 rfl gRef_r 5 rfl ?_
  refine g_calliP (g_V (As := []) (rest := []) hC mvJ34_hasNext q1715 (gOf.of hC.K cI19 hM_0) (met_LLi_hasNext l G M b t0 t1 mc n fi la i9 i lr (some x) hn8 hi8 hM_0 hM_1) ⟨rfl, rfl⟩ ⟨(Nat.le_of_ble_eq_true rfl), (Nat.le_of_ble_eq_true rfl)⟩ rfl (Nat.le_of_ble_eq_true rfl) dJ34_next_5 rfl ⟨(Nat.le_of_ble_eq_true rfl), (Nat.le_of_ble_eq_true rfl)⟩) 8 rfl 0 (Nat.le_of_ble_eq_true rfl) ?_
  refine g_if_ne hC dJ34_next_8 19 rfl 11 rfl (fun c_1 => ?_) (fun c_1 => ?_)
  · replace c_1 := bId_1 c_1
    refine g_aload_n hC dJ34_next_19 0 rfl gRef_r 20 rfl ?_
    refine g_aload_n hC dJ34_next_20 0 rfl gRef_r 21 rfl ?_
    refine g_get (v := .ref x) hC cI19 hM_0 1 (Nat.le_of_ble_eq_true rfl) q1944 rfl dJ34_next_21 24 rfl ?_
    refine g_put hC cI19 hM_0 0 (Nat.le_of_ble_eq_true rfl) q1943 rfl rfl rfl (Nat.le_of_ble_eq_true rfl) dJ34_next_24 (fs' := [.ref x, .ref x, .int (nI i), .int mc, .ref b]) rfl 27 rfl (fun M2 hU3 => ?_)
    refine g_aload_n hC dJ34_next_27 0 rfl gRef_r 28 rfl ?_
    refine g_aload_n hC dJ34_next_28 0 rfl gRef_r 29 rfl ?_
    refine g_get (v := .ref x) hC cI19 hU3.1 1 (Nat.le_of_ble_eq_true rfl) q1944 rfl dJ34_next_29 32 rfl ?_
    refine g_get (v := va_rf nx) hC cI18 (hU3.n (gne_c hM_2 hM_0 (by decide)) hM_2) 1 (Nat.le_of_ble_eq_true rfl) q1791 rfl dJ34_next_32 35 rfl ?_
    refine g_put hC cI19 hU3.1 1 (Nat.le_of_ble_eq_true rfl) q1944 rfl gq_n gq_f (Nat.le_of_ble_eq_true rfl) dJ34_next_35 (fs' := [.ref x, va_rf nx, .int (nI i), .int mc, .ref b]) rfl 38 rfl (fun M4 hU5 => ?_)
    refine g_aload_n hC dJ34_next_38 0 rfl gRef_r 39 rfl ?_
    refine g_dup hC dJ34_next_39 rfl 40 rfl ?_
    refine g_get (v := .int (nI i)) hC cI19 hU5.1 2 (Nat.le_of_ble_eq_true rfl) q1945 rfl dJ34_next_40 43 rfl ?_
    refine g_iconst hC dJ34_next_43 ki_1 44 rfl ?_
    refine g_iadd hC dJ34_next_44 45 rfl ?_
    refine g_topi (y := nI (i + 1)) (nI_a (a := i) (b := 1) (c := (i + 1)) (by omega)) ?_
    refine g_put hC cI19 hU5.1 2 (Nat.le_of_ble_eq_true rfl) q1945 rfl rfl rfl (Nat.le_of_ble_eq_true rfl) dJ34_next_45 (fs' := [.ref x, va_rf nx, .int (nI (i + 1)), .int mc, .ref b]) rfl 48 rfl (fun M6 hU7 => ?_)
    have hH8 := (hU7.n (gne_c (hU5.n (gne_c (hU3.n (gne_c hM_1 hM_0 (by decide)) hM_1) hU3.1 (by decide)) (hU3.n (gne_c hM_1 hM_0 (by decide)) hM_1)) hU5.1 (by decide)) (hU5.n (gne_c (hU3.n (gne_c hM_1 hM_0 (by decide)) hM_1) hU3.1 (by decide)) (hU3.n (gne_c hM_1 hM_0 (by decide)) hM_1)))
    have hH9 := (hU7.n (gne_c (hU5.n (gne_c (hU3.n (gne_c hM_2 hM_0 (by decide)) hM_2) hU3.1 (by decide)) (hU3.n (gne_c hM_2 hM_0 (by decide)) hM_2)) hU5.1 (by decide)) (hU5.n (gne_c (hU3.n (gne_c hM_2 hM_0 (by decide)) hM_2) hU3.1 (by decide)) (hU3.n (gne_c hM_2 hM_0 (by decide)) hM_2)))
    refine g_aload_n hC dJ34_next_48 0 rfl gRef_r 49 rfl ?_
    refine g_get (v := .ref x) hC cI19 hU7.1 0 (Nat.le_of_ble_eq_true rfl) q1943 rfl dJ34_next_49 52 rfl ?_
    refine g_get (v := .ref ix) hC cI18 hH9 0 (Nat.le_of_ble_eq_true rfl) q1788 rfl dJ34_next_52 55 rfl ?_
    exact g_aret (v := some ix) hC (by first | exact Or.inl ⟨_, rfl⟩ | exact Or.inr ⟨_, rfl⟩) (fun k9 hk9 => ⟨rfl, hU7.1, (((gFr.refl.up hU3 hM_0 (by simp)).up hU5 hU3.1 (by simp)).up hU7 hU5.1 (by simp)), (by first | exact Nat.le_zero.mp hk9 | omega)⟩) dJ34_next_55 (Nat.le_of_ble_eq_true rfl) (Nat.le_of_ble_eq_true rfl)
  · replace c_1 := bId_0 c_1
    exact absurd hi c_1
set_option maxHeartbeats 4000000 in
theorem met_LLi_next (l : Launch) (G : gG) (M : gM) (b : Nat) (t0 : Nat × Nat) (t1 : Nat × Nat) (mc : Int32) (A : List dsE) (e : dsE) (B : List dsE) (i9 : Nat) (lr : Option Nat) (hD : (A ++ e :: B).length ≤ 8) (hM_0 : M i9 = some ((9, 0), .inr (19, [va_rf lr, va_rf (llN (e :: B) none), .int (nI A.length), .int mc, .ref b]))) (hM_1 : M b = some (t0, .inr (17, [.int mc, .int (nI ((A ++ e :: B).length)), va_rf (llN (A ++ e :: B) none), va_rf (llZ none (A ++ e :: B))]))) (hP_0 : lls M t1 (A ++ e :: B)) : Met l yJ34_next (ws_ yJ34_next cJ34_next 1 (some (.object "java/lang/Object"))) ({ frames := 1, cells := 0, slots := 0, locals := 20 }) (gPc G [.ref i9] M) (gQq G (fun r9 M9 k9 => r9 = (some e.2.1) ∧ M9 i9 = some ((9, 0), .inr (19, [.ref e.1, va_rf (llN B none), .int (nI (A.length + 1)), .int mc, .ref b])) ∧ gFr (gL [i9]) M M9 ∧ k9 = 0)) 0 0 (gA G) := by
  have hs := (llS.app A none).mp hP_0.1
  simp only [List.length_append, List.length_cons] at hD
  exact met_LLi_next0 l G M b t0 t1 mc (A ++ e :: B).length (llN (A ++ e :: B) none) (llZ none (A ++ e :: B)) i9 A.length lr e.1 e.2.1 (llN B none) (llZ none A) (by simp only [List.length_append, List.length_cons]; omega) (by omega) (by simp only [List.length_append, List.length_cons]; omega) hM_0 hM_1 hs.2.1
set_option maxHeartbeats 4000000 in
theorem met_LL_unlink_00 (l : Launch) (G : gG) (M : gM) (b : Nat) (t0 : Nat × Nat) (t1 : Nat × Nat) (mc : Int32) (n : Nat) (fi : Option Nat) (la : Option Nat) (x : Nat) (ix : Nat) (hn8 : n ≤ 7) (hM_0 : M b = some (t0, .inr (17, [.int mc, .int (nI (n + 1)), va_rf fi, va_rf la]))) (hM_1 : M x = some (t1, .inr (18, [.ref ix, .null, .null]))) : Met l yJ3_unlink (ws_ yJ3_unlink cJ3_unlink 5 (some (.object "java/lang/Object"))) ({ frames := 1, cells := 0, slots := 0, locals := 40 }) (gPc G [.ref b, .ref x] M) (gQq G (fun r9 M9 k9 => r9 = (some ix) ∧ M9 b = some (t0, .inr (17, [.int (mc + 1), .int (nI n), .null, .null])) ∧ gFr (gL [b, x]) M M9 ∧ k9 = 0)) 0 0 (gA G) := by
  refine gMet [(0, .ref b), (1, .ref x)] (by decide) (Nat.le_of_ble_eq_true rfl) rfl ?_
  intro p e s m below meth c hC
  refine g_aload_n hC dJ3_unlink_0 1 rfl gRef_r 1 rfl ?_
  refine g_get (v := .ref ix) hC cI18 hM_1 0 (Nat.le_of_ble_eq_true rfl) q1789 rfl dJ3_unlink_1 4 rfl ?_
  refine g_astore_n hC dJ3_unlink_4 rfl gRef_r (Nat.le_of_ble_eq_true rfl) [(2, .ref ix), (0, .ref b), (1, .ref x)] rfl 5 rfl ?_
  refine g_aload_n hC dJ3_unlink_5 2 rfl gRef_r 6 rfl ?_
  refine g_get (v := .null) hC cI18 hM_1 1 (Nat.le_of_ble_eq_true rfl) q1792 rfl dJ3_unlink_6 9 rfl ?_
  refine g_astore_n hC dJ3_unlink_9 rfl gRef_n (Nat.le_of_ble_eq_true rfl) [(3, .null), (2, .ref ix), (0, .ref b), (1, .ref x)] rfl 10 rfl ?_
  refine g_aload_n hC dJ3_unlink_10 3 rfl gRef_r 11 rfl ?_
  refine g_get (v := .null) hC cI18 hM_1 2 (Nat.le_of_ble_eq_true rfl) q1794 rfl dJ3_unlink_11 14 rfl ?_
  refine g_astore hC dJ3_unlink_14 gRef_n (Nat.le_of_ble_eq_true rfl) [(4, .null), (3, .null), (2, .ref ix), (0, .ref b), (1, .ref x)] rfl 16 rfl ?_
  refine g_aload hC dJ3_unlink_16 0 rfl gRef_n 18 rfl ?_
  refine g_ifnonnull (r := none) hC dJ3_unlink_18 29 rfl 21 rfl (fun _ q => by cases q) (fun _ => ?_)
  refine g_aload_n hC dJ3_unlink_21 3 rfl gRef_r 22 rfl ?_
  refine g_aload_n hC dJ3_unlink_22 1 rfl gRef_n 23 rfl ?_
  refine g_put hC cI17 hM_0 2 (Nat.le_of_ble_eq_true rfl) q203 rfl rfl rfl (Nat.le_of_ble_eq_true rfl) dJ3_unlink_23 (fs' := [.int mc, .int (nI (n + 1)), .null, va_rf la]) rfl 26 rfl (fun M2 hU3 => ?_)
  refine g_goto hC dJ3_unlink_26 40 rfl ?_
  refine g_aload_n hC dJ3_unlink_40 1 rfl gRef_n 41 rfl ?_
  refine g_ifnonnull (r := none) hC dJ3_unlink_41 53 rfl 44 rfl (fun _ q => by cases q) (fun _ => ?_)
  refine g_aload_n hC dJ3_unlink_44 3 rfl gRef_r 45 rfl ?_
  refine g_aload hC dJ3_unlink_45 0 rfl gRef_n 47 rfl ?_
  refine g_put hC cI17 hU3.1 3 (Nat.le_of_ble_eq_true rfl) q204 rfl rfl rfl (Nat.le_of_ble_eq_true rfl) dJ3_unlink_47 (fs' := [.int mc, .int (nI (n + 1)), .null, .null]) rfl 50 rfl (fun M5 hU6 => ?_)
  refine g_goto hC dJ3_unlink_50 64 rfl ?_
  refine g_aload_n hC dJ3_unlink_64 4 rfl gRef_r 65 rfl ?_
  refine g_null hC dJ3_unlink_65 66 rfl ?_
  refine g_put hC cI18 (hU6.n (gne_c (hU3.n (gne_c hM_1 hM_0 (by decide)) hM_1) hU3.1 (by decide)) (hU3.n (gne_c hM_1 hM_0 (by decide)) hM_1)) 0 (Nat.le_of_ble_eq_true rfl) q1789 rfl rfl rfl (Nat.le_of_ble_eq_true rfl) dJ3_unlink_66 (fs' := [.null, .null, .null]) rfl 69 rfl (fun M7 hU8 => ?_)
  have hH9 := (hU8.n (gne_c hU6.1 (hU6.n (gne_c (hU3.n (gne_c hM_1 hM_0 (by decide)) hM_1) hU3.1 (by decide)) (hU3.n (gne_c hM_1 hM_0 (by decide)) hM_1)) (by decide)) hU6.1)
  refine g_aload_n hC dJ3_unlink_69 3 rfl gRef_r 70 rfl ?_
  refine g_dup hC dJ3_unlink_70 rfl 71 rfl ?_
  refine g_get (v := .int (nI (n + 1))) hC cI17 hH9 1 (Nat.le_of_ble_eq_true rfl) q201 rfl dJ3_unlink_71 74 rfl ?_
  refine g_iconst hC dJ3_unlink_74 ki_1 75 rfl ?_
  refine g_isub hC dJ3_unlink_75 76 rfl ?_
  refine g_topi (y := nI n) (nI_s (a := (n + 1)) (b := 1) (c := n) (by omega)) ?_
  refine g_put hC cI17 hH9 1 (Nat.le_of_ble_eq_true rfl) q201 rfl rfl rfl (Nat.le_of_ble_eq_true rfl) dJ3_unlink_76 (fs' := [.int mc, .int (nI n), .null, .null]) rfl 79 rfl (fun M10 hU11 => ?_)
  refine g_aload_n hC dJ3_unlink_79 3 rfl gRef_r 80 rfl ?_
  refine g_dup hC dJ3_unlink_80 rfl 81 rfl ?_
  refine g_getU (v := .int mc) hC cI17 hU11.1 0 (Nat.le_of_ble_eq_true rfl) q211 q207 rfl dJ3_unlink_81 84 rfl ?_
  refine g_iconst hC dJ3_unlink_84 ki_1 85 rfl ?_
  refine g_iadd hC dJ3_unlink_85 86 rfl ?_
  refine g_putU hC cI17 hU11.1 0 (Nat.le_of_ble_eq_true rfl) q211 q207 rfl rfl rfl (Nat.le_of_ble_eq_true rfl) dJ3_unlink_86 (fs' := [.int (mc + 1), .int (nI n), .null, .null]) rfl 89 rfl (fun M12 hU13 => ?_)
  refine g_aload_n hC dJ3_unlink_89 2 rfl gRef_r 90 rfl ?_
  exact g_aret (v := some ix) hC (by first | exact Or.inl ⟨_, rfl⟩ | exact Or.inr ⟨_, rfl⟩) (fun k9 hk9 => ⟨rfl, hU13.1, (((((gFr.refl.up hU3 hM_0 (by simp)).up hU6 hU3.1 (by simp)).up hU8 (hU6.n (gne_c (hU3.n (gne_c hM_1 hM_0 (by decide)) hM_1) hU3.1 (by decide)) (hU3.n (gne_c hM_1 hM_0 (by decide)) hM_1)) (by simp)).up hU11 hH9 (by simp)).up hU13 hU11.1 (by simp)), (by first | exact Nat.le_zero.mp hk9 | omega)⟩) dJ3_unlink_90 (Nat.le_of_ble_eq_true rfl) (Nat.le_of_ble_eq_true rfl)
set_option maxHeartbeats 4000000 in
theorem met_LLi_rem_00 (l : Launch) (G : gG) (M : gM) (b : Nat) (t0 : Nat × Nat) (t1 : Nat × Nat) (mc : Int32) (n : Nat) (fi : Option Nat) (la : Option Nat) (x : Nat) (ix : Nat) (i9 : Nat) (i : Nat) (hn8 : n ≤ 7) (hi8 : i ≤ 7) (hM_0 : M i9 = some ((9, 0), .inr (19, [.ref x, .null, .int (nI (i + 1)), .int mc, .ref b]))) (hM_1 : M b = some (t0, .inr (17, [.int mc, .int (nI (n + 1)), va_rf fi, va_rf la]))) (hM_2 : M x = some (t1, .inr (18, [.ref ix, .null, .null]))) : Met l yJ34_remove (ws_ yJ34_remove cJ34_remove 2 none) ({ frames := 2, cells := 0, slots := 0, locals := 70 }) (gPc G [.ref i9] M) (gQv G (fun M9 k9 => M9 b = some (t0, .inr (17, [.int (mc + 1), .int (nI n), .null, .null])) ∧ M9 i9 = some ((9, 0), .inr (19, [.null, .null, .int (nI i), .int (mc + 1), .ref b])) ∧ gFr (gL [b, x, i9]) M M9 ∧ k9 = 0)) 0 0 (gA G) := by
  refine gMet [(0, .ref i9)] (by decide) (Nat.le_of_ble_eq_true rfl) rfl ?_
  intro p e s m below meth c hC
  refine g_aload_n hC dJ34_remove_0 0 rfl gRef_r 1 rfl ?_
  refine g_callvP (g_V (As := []) (rest := []) hC mvJ34_checkForComodification q1711 (gOf.of hC.K cI19 hM_0) (met_LLi_chk l G M b t0 t1 mc (n + 1) fi la i9 (i + 1) (some x) none (by first | assumption | decide | omega | (dsimp only; omega) | simp_all) (by first | assumption | decide | omega | (dsimp only; omega) | simp_all) hM_0 hM_1) ⟨rfl, rfl⟩ ⟨(Nat.le_of_ble_eq_true rfl), (Nat.le_of_ble_eq_true rfl)⟩ rfl (Nat.le_of_ble_eq_true rfl) dJ34_remove_1 rfl ⟨(Nat.le_of_ble_eq_true rfl), (Nat.le_of_ble_eq_true rfl)⟩) 4 rfl 0 (Nat.le_of_ble_eq_true rfl) ?_
  refine g_aload_n hC dJ34_remove_4 0 rfl gRef_r 5 rfl ?_
  refine g_get (v := .ref x) hC cI19 hM_0 0 (Nat.le_of_ble_eq_true rfl) q1943 rfl dJ34_remove_5 8 rfl ?_
  refine g_ifnonnull (r := some x) hC dJ34_remove_8 19 rfl 11 rfl (fun _ _ => ?_) (fun q => by cases q)
  refine g_aload_n hC dJ34_remove_19 0 rfl gRef_r 20 rfl ?_
  refine g_get (v := .ref x) hC cI19 hM_0 0 (Nat.le_of_ble_eq_true rfl) q1943 rfl dJ34_remove_20 23 rfl ?_
  refine g_get (v := .null) hC cI18 hM_2 1 (Nat.le_of_ble_eq_true rfl) q1791 rfl dJ34_remove_23 26 rfl ?_
  refine g_astore_n hC dJ34_remove_26 rfl gRef_n (Nat.le_of_ble_eq_true rfl) [(1, .null), (0, .ref i9)] rfl 27 rfl ?_
  refine g_aload_n hC dJ34_remove_27 1 rfl gRef_r 28 rfl ?_
  refine g_get (v := .ref b) hC cI19 hM_0 4 (Nat.le_of_ble_eq_true rfl) q1947 rfl dJ34_remove_28 31 rfl ?_
  refine g_aload_n hC dJ34_remove_31 1 rfl gRef_r 32 rfl ?_
  refine g_get (v := .ref x) hC cI19 hM_0 0 (Nat.le_of_ble_eq_true rfl) q1943 rfl dJ34_remove_32 35 rfl ?_
  refine g_callq (g_V (As := [.ref x]) (rest := []) hC mvJ3_unlink q2069 (gOf.of hC.K cI17 hM_1) (met_LL_unlink_00 l G M b t0 t1 mc n fi la x ix hn8 hM_1 hM_2) ⟨rfl, rfl⟩ ⟨(Nat.le_of_ble_eq_true rfl), (Nat.le_of_ble_eq_true rfl)⟩ rfl (Nat.le_of_ble_eq_true rfl) dJ34_remove_35 rfl ⟨(Nat.le_of_ble_eq_true rfl), (Nat.le_of_ble_eq_true rfl)⟩) 0 (Nat.le_of_ble_eq_true rfl) 0 (Nat.le_of_ble_eq_true rfl) 38 rfl (fun r5 M2 k3 hp4 => ?_)
  obtain ⟨rfl, hc6, hF7, hk8⟩ := hp4
  refine g_pop hC dJ34_remove_38 rfl 39 rfl ?_
  refine g_aload_n hC dJ34_remove_39 1 rfl gRef_r 40 rfl ?_
  refine g_get (v := .null) hC cI19 (hF7 _ _ _ hM_0 (gno (gne_c hM_0 hM_1 (by decide)) (gno (gne_c hM_0 hM_2 (by decide)) gno0))) 1 (Nat.le_of_ble_eq_true rfl) q1944 rfl dJ34_remove_40 43 rfl ?_
  refine g_aload_n hC dJ34_remove_43 1 rfl gRef_r 44 rfl ?_
  refine g_get (v := .ref x) hC cI19 (hF7 _ _ _ hM_0 (gno (gne_c hM_0 hM_1 (by decide)) (gno (gne_c hM_0 hM_2 (by decide)) gno0))) 0 (Nat.le_of_ble_eq_true rfl) q1943 rfl dJ34_remove_44 47 rfl ?_
  refine g_acmp_ne (rx := none) (ry := some x) hC dJ34_remove_47 58 rfl 50 rfl (fun c_9 => ?_) (fun c_9 => ?_)
  · refine g_aload_n hC dJ34_remove_58 1 rfl gRef_r 59 rfl ?_
    refine g_dup hC dJ34_remove_59 rfl 60 rfl ?_
    refine g_get (v := .int (nI (i + 1))) hC cI19 (hF7 _ _ _ hM_0 (gno (gne_c hM_0 hM_1 (by decide)) (gno (gne_c hM_0 hM_2 (by decide)) gno0))) 2 (Nat.le_of_ble_eq_true rfl) q1945 rfl dJ34_remove_60 63 rfl ?_
    refine g_iconst hC dJ34_remove_63 ki_1 64 rfl ?_
    refine g_isub hC dJ34_remove_64 65 rfl ?_
    refine g_topi (y := nI i) (nI_s (a := (i + 1)) (b := 1) (c := i) (by omega)) ?_
    refine g_put hC cI19 (hF7 _ _ _ hM_0 (gno (gne_c hM_0 hM_1 (by decide)) (gno (gne_c hM_0 hM_2 (by decide)) gno0))) 2 (Nat.le_of_ble_eq_true rfl) q1945 rfl rfl rfl (Nat.le_of_ble_eq_true rfl) dJ34_remove_65 (fs' := [.ref x, .null, .int (nI i), .int mc, .ref b]) rfl 68 rfl (fun M10 hU11 => ?_)
    refine g_aload_n hC dJ34_remove_68 1 rfl gRef_r 69 rfl ?_
    refine g_null hC dJ34_remove_69 70 rfl ?_
    refine g_put hC cI19 hU11.1 0 (Nat.le_of_ble_eq_true rfl) q1943 rfl rfl rfl (Nat.le_of_ble_eq_true rfl) dJ34_remove_70 (fs' := [.null, .null, .int (nI i), .int mc, .ref b]) rfl 73 rfl (fun M12 hU13 => ?_)
    have hH14 := (hU13.n (gne_c (hU11.n (gne_c hc6 (hF7 _ _ _ hM_0 (gno (gne_c hM_0 hM_1 (by decide)) (gno (gne_c hM_0 hM_2 (by decide)) gno0))) (by decide)) hc6) hU11.1 (by decide)) (hU11.n (gne_c hc6 (hF7 _ _ _ hM_0 (gno (gne_c hM_0 hM_1 (by decide)) (gno (gne_c hM_0 hM_2 (by decide)) gno0))) (by decide)) hc6))
    refine g_aload_n hC dJ34_remove_73 1 rfl gRef_r 74 rfl ?_
    refine g_dup hC dJ34_remove_74 rfl 75 rfl ?_
    refine g_get (v := .int mc) hC cI19 hU13.1 3 (Nat.le_of_ble_eq_true rfl) q1946 rfl dJ34_remove_75 78 rfl ?_
    refine g_iconst hC dJ34_remove_78 ki_1 79 rfl ?_
    refine g_iadd hC dJ34_remove_79 80 rfl ?_
    refine g_put hC cI19 hU13.1 3 (Nat.le_of_ble_eq_true rfl) q1946 rfl rfl rfl (Nat.le_of_ble_eq_true rfl) dJ34_remove_80 (fs' := [.null, .null, .int (nI i), .int (mc + 1), .ref b]) rfl 83 rfl (fun M15 hU16 => ?_)
    exact g_vret hC (fun k9 hk9 => ⟨(hU16.n (gne_c hH14 hU13.1 (by decide)) hH14), hU16.1, ((((gFr.refl.trans (hF7.mono (by intro b t hb; simp at hb ⊢; first | done | (rcases hb with rfl | rfl | rfl | rfl <;> simp) | (simp [hb]; done)))).up hU11 (hF7 _ _ _ hM_0 (gno (gne_c hM_0 hM_1 (by decide)) (gno (gne_c hM_0 hM_2 (by decide)) gno0))) (by simp)).up hU13 hU11.1 (by simp)).up hU16 hU13.1 (by simp)), (by first | exact Nat.le_zero.mp hk9 | omega)⟩) dJ34_remove_83 (Nat.le_of_ble_eq_true rfl) (Nat.le_of_ble_eq_true rfl)
  · cases c_9
set_option maxHeartbeats 4000000 in
theorem met_LL_unlink_01 (l : Launch) (G : gG) (M : gM) (b : Nat) (t0 : Nat × Nat) (t1 : Nat × Nat) (mc : Int32) (n : Nat) (fi : Option Nat) (la : Option Nat) (x : Nat) (ix : Nat) (y : Nat) (iy : Nat) (ny : Option Nat) (hn8 : n ≤ 7) (hyx : y ≠ x) (hM_0 : M b = some (t0, .inr (17, [.int mc, .int (nI (n + 1)), va_rf fi, va_rf la]))) (hM_1 : M x = some (t1, .inr (18, [.ref ix, .ref y, .null]))) (hM_2 : M y = some (t1, .inr (18, [.ref iy, va_rf ny, .ref x]))) : Met l yJ3_unlink (ws_ yJ3_unlink cJ3_unlink 5 (some (.object "java/lang/Object"))) ({ frames := 1, cells := 0, slots := 0, locals := 40 }) (gPc G [.ref b, .ref x] M) (gQq G (fun r9 M9 k9 => r9 = (some ix) ∧ M9 b = some (t0, .inr (17, [.int (mc + 1), .int (nI n), .ref y, va_rf la])) ∧ M9 y = some (t1, .inr (18, [.ref iy, va_rf ny, .null])) ∧ gFr (gL [b, x, y]) M M9 ∧ k9 = 0)) 0 0 (gA G) := by
  refine gMet [(0, .ref b), (1, .ref x)] (by decide) (Nat.le_of_ble_eq_true rfl) rfl ?_
  intro p e s m below meth c hC
  refine g_aload_n hC dJ3_unlink_0 1 rfl gRef_r 1 rfl ?_
  refine g_get (v := .ref ix) hC cI18 hM_1 0 (Nat.le_of_ble_eq_true rfl) q1789 rfl dJ3_unlink_1 4 rfl ?_
  refine g_astore_n hC dJ3_unlink_4 rfl gRef_r (Nat.le_of_ble_eq_true rfl) [(2, .ref ix), (0, .ref b), (1, .ref x)] rfl 5 rfl ?_
  refine g_aload_n hC dJ3_unlink_5 2 rfl gRef_r 6 rfl ?_
  refine g_get (v := .ref y) hC cI18 hM_1 1 (Nat.le_of_ble_eq_true rfl) q1792 rfl dJ3_unlink_6 9 rfl ?_
  refine g_astore_n hC dJ3_unlink_9 rfl gRef_r (Nat.le_of_ble_eq_true rfl) [(3, .ref y), (2, .ref ix), (0, .ref b), (1, .ref x)] rfl 10 rfl ?_
  refine g_aload_n hC dJ3_unlink_10 3 rfl gRef_r 11 rfl ?_
  refine g_get (v := .null) hC cI18 hM_1 2 (Nat.le_of_ble_eq_true rfl) q1794 rfl dJ3_unlink_11 14 rfl ?_
  refine g_astore hC dJ3_unlink_14 gRef_n (Nat.le_of_ble_eq_true rfl) [(4, .null), (3, .ref y), (2, .ref ix), (0, .ref b), (1, .ref x)] rfl 16 rfl ?_
  refine g_aload hC dJ3_unlink_16 0 rfl gRef_n 18 rfl ?_
  refine g_ifnonnull (r := none) hC dJ3_unlink_18 29 rfl 21 rfl (fun _ q => by cases q) (fun _ => ?_)
  refine g_aload_n hC dJ3_unlink_21 3 rfl gRef_r 22 rfl ?_
  refine g_aload_n hC dJ3_unlink_22 1 rfl gRef_r 23 rfl ?_
  refine g_put hC cI17 hM_0 2 (Nat.le_of_ble_eq_true rfl) q203 rfl rfl rfl (Nat.le_of_ble_eq_true rfl) dJ3_unlink_23 (fs' := [.int mc, .int (nI (n + 1)), .ref y, va_rf la]) rfl 26 rfl (fun M2 hU3 => ?_)
  refine g_goto hC dJ3_unlink_26 40 rfl ?_
  refine g_aload_n hC dJ3_unlink_40 1 rfl gRef_r 41 rfl ?_
  refine g_ifnonnull (r := some y) hC dJ3_unlink_41 53 rfl 44 rfl (fun _ _ => ?_) (fun q => by cases q)
  refine g_aload_n hC dJ3_unlink_53 1 rfl gRef_r 54 rfl ?_
  refine g_aload hC dJ3_unlink_54 0 rfl gRef_n 56 rfl ?_
  refine g_put hC cI18 (hU3.n (gne_c hM_2 hM_0 (by decide)) hM_2) 2 (Nat.le_of_ble_eq_true rfl) q1794 rfl rfl rfl (Nat.le_of_ble_eq_true rfl) dJ3_unlink_56 (fs' := [.ref iy, va_rf ny, .null]) rfl 59 rfl (fun M5 hU6 => ?_)
  refine g_aload_n hC dJ3_unlink_59 4 rfl gRef_r 60 rfl ?_
  refine g_null hC dJ3_unlink_60 61 rfl ?_
  refine g_put hC cI18 (hU6.n (Ne.symm hyx) (hU3.n (gne_c hM_1 hM_0 (by decide)) hM_1)) 1 (Nat.le_of_ble_eq_true rfl) q1792 rfl rfl rfl (Nat.le_of_ble_eq_true rfl) dJ3_unlink_61 (fs' := [.ref ix, .null, .null]) rfl 64 rfl (fun M7 hU8 => ?_)
  have hH9 := (hU8.n hyx hU6.1)
  have hH10 := (hU8.n (gne_c (hU6.n (gne_c hU3.1 (hU3.n (gne_c hM_2 hM_0 (by decide)) hM_2) (by decide)) hU3.1) (hU6.n (Ne.symm hyx) (hU3.n (gne_c hM_1 hM_0 (by decide)) hM_1)) (by decide)) (hU6.n (gne_c hU3.1 (hU3.n (gne_c hM_2 hM_0 (by decide)) hM_2) (by decide)) hU3.1))
  refine g_aload_n hC dJ3_unlink_64 4 rfl gRef_r 65 rfl ?_
  refine g_null hC dJ3_unlink_65 66 rfl ?_
  refine g_put hC cI18 hU8.1 0 (Nat.le_of_ble_eq_true rfl) q1789 rfl rfl rfl (Nat.le_of_ble_eq_true rfl) dJ3_unlink_66 (fs' := [.null, .null, .null]) rfl 69 rfl (fun M11 hU12 => ?_)
  refine g_aload_n hC dJ3_unlink_69 3 rfl gRef_r 70 rfl ?_
  refine g_dup hC dJ3_unlink_70 rfl 71 rfl ?_
  refine g_get (v := .int (nI (n + 1))) hC cI17 (hU12.n (gne_c hH10 hU8.1 (by decide)) hH10) 1 (Nat.le_of_ble_eq_true rfl) q201 rfl dJ3_unlink_71 74 rfl ?_
  refine g_iconst hC dJ3_unlink_74 ki_1 75 rfl ?_
  refine g_isub hC dJ3_unlink_75 76 rfl ?_
  refine g_topi (y := nI n) (nI_s (a := (n + 1)) (b := 1) (c := n) (by omega)) ?_
  refine g_put hC cI17 (hU12.n (gne_c hH10 hU8.1 (by decide)) hH10) 1 (Nat.le_of_ble_eq_true rfl) q201 rfl rfl rfl (Nat.le_of_ble_eq_true rfl) dJ3_unlink_76 (fs' := [.int mc, .int (nI n), .ref y, va_rf la]) rfl 79 rfl (fun M13 hU14 => ?_)
  refine g_aload_n hC dJ3_unlink_79 3 rfl gRef_r 80 rfl ?_
  refine g_dup hC dJ3_unlink_80 rfl 81 rfl ?_
  refine g_getU (v := .int mc) hC cI17 hU14.1 0 (Nat.le_of_ble_eq_true rfl) q211 q207 rfl dJ3_unlink_81 84 rfl ?_
  refine g_iconst hC dJ3_unlink_84 ki_1 85 rfl ?_
  refine g_iadd hC dJ3_unlink_85 86 rfl ?_
  refine g_putU hC cI17 hU14.1 0 (Nat.le_of_ble_eq_true rfl) q211 q207 rfl rfl rfl (Nat.le_of_ble_eq_true rfl) dJ3_unlink_86 (fs' := [.int (mc + 1), .int (nI n), .ref y, va_rf la]) rfl 89 rfl (fun M15 hU16 => ?_)
  refine g_aload_n hC dJ3_unlink_89 2 rfl gRef_r 90 rfl ?_
  exact g_aret (v := some ix) hC (by first | exact Or.inl ⟨_, rfl⟩ | exact Or.inr ⟨_, rfl⟩) (fun k9 hk9 => ⟨rfl, hU16.1, (hU16.n (gne_c (hU14.n (gne_c (hU12.n hyx hH9) (hU12.n (gne_c hH10 hU8.1 (by decide)) hH10) (by decide)) (hU12.n hyx hH9)) hU14.1 (by decide)) (hU14.n (gne_c (hU12.n hyx hH9) (hU12.n (gne_c hH10 hU8.1 (by decide)) hH10) (by decide)) (hU12.n hyx hH9))), ((((((gFr.refl.up hU3 hM_0 (by simp)).up hU6 (hU3.n (gne_c hM_2 hM_0 (by decide)) hM_2) (by simp)).up hU8 (hU6.n (Ne.symm hyx) (hU3.n (gne_c hM_1 hM_0 (by decide)) hM_1)) (by simp)).up hU12 hU8.1 (by simp)).up hU14 (hU12.n (gne_c hH10 hU8.1 (by decide)) hH10) (by simp)).up hU16 hU14.1 (by simp)), (by first | exact Nat.le_zero.mp hk9 | omega)⟩) dJ3_unlink_90 (Nat.le_of_ble_eq_true rfl) (Nat.le_of_ble_eq_true rfl)
set_option maxHeartbeats 4000000 in
theorem met_LLi_rem_01 (l : Launch) (G : gG) (M : gM) (b : Nat) (t0 : Nat × Nat) (t1 : Nat × Nat) (mc : Int32) (n : Nat) (fi : Option Nat) (la : Option Nat) (x : Nat) (ix : Nat) (y : Nat) (iy : Nat) (ny : Option Nat) (i9 : Nat) (i : Nat) (hn8 : n ≤ 7) (hyx : y ≠ x) (hi8 : i ≤ 7) (hM_0 : M i9 = some ((9, 0), .inr (19, [.ref x, .ref y, .int (nI (i + 1)), .int mc, .ref b]))) (hM_1 : M b = some (t0, .inr (17, [.int mc, .int (nI (n + 1)), va_rf fi, va_rf la]))) (hM_2 : M x = some (t1, .inr (18, [.ref ix, .ref y, .null]))) (hM_3 : M y = some (t1, .inr (18, [.ref iy, va_rf ny, .ref x]))) : Met l yJ34_remove (ws_ yJ34_remove cJ34_remove 2 none) ({ frames := 2, cells := 0, slots := 0, locals := 70 }) (gPc G [.ref i9] M) (gQv G (fun M9 k9 => M9 b = some (t0, .inr (17, [.int (mc + 1), .int (nI n), .ref y, va_rf la])) ∧ M9 y = some (t1, .inr (18, [.ref iy, va_rf ny, .null])) ∧ M9 i9 = some ((9, 0), .inr (19, [.null, .ref y, .int (nI i), .int (mc + 1), .ref b])) ∧ gFr (gL [b, x, y, i9]) M M9 ∧ k9 = 0)) 0 0 (gA G) := by
  refine gMet [(0, .ref i9)] (by decide) (Nat.le_of_ble_eq_true rfl) rfl ?_
  intro p e s m below meth c hC
  refine g_aload_n hC dJ34_remove_0 0 rfl gRef_r 1 rfl ?_
  refine g_callvP (g_V (As := []) (rest := []) hC mvJ34_checkForComodification q1711 (gOf.of hC.K cI19 hM_0) (met_LLi_chk l G M b t0 t1 mc (n + 1) fi la i9 (i + 1) (some x) (some y) (by first | assumption | decide | omega | (dsimp only; omega) | simp_all) (by first | assumption | decide | omega | (dsimp only; omega) | simp_all) hM_0 hM_1) ⟨rfl, rfl⟩ ⟨(Nat.le_of_ble_eq_true rfl), (Nat.le_of_ble_eq_true rfl)⟩ rfl (Nat.le_of_ble_eq_true rfl) dJ34_remove_1 rfl ⟨(Nat.le_of_ble_eq_true rfl), (Nat.le_of_ble_eq_true rfl)⟩) 4 rfl 0 (Nat.le_of_ble_eq_true rfl) ?_
  refine g_aload_n hC dJ34_remove_4 0 rfl gRef_r 5 rfl ?_
  refine g_get (v := .ref x) hC cI19 hM_0 0 (Nat.le_of_ble_eq_true rfl) q1943 rfl dJ34_remove_5 8 rfl ?_
  refine g_ifnonnull (r := some x) hC dJ34_remove_8 19 rfl 11 rfl (fun _ _ => ?_) (fun q => by cases q)
  refine g_aload_n hC dJ34_remove_19 0 rfl gRef_r 20 rfl ?_
  refine g_get (v := .ref x) hC cI19 hM_0 0 (Nat.le_of_ble_eq_true rfl) q1943 rfl dJ34_remove_20 23 rfl ?_
  refine g_get (v := .ref y) hC cI18 hM_2 1 (Nat.le_of_ble_eq_true rfl) q1791 rfl dJ34_remove_23 26 rfl ?_
  refine g_astore_n hC dJ34_remove_26 rfl gRef_r (Nat.le_of_ble_eq_true rfl) [(1, .ref y), (0, .ref i9)] rfl 27 rfl ?_
  refine g_aload_n hC dJ34_remove_27 1 rfl gRef_r 28 rfl ?_
  refine g_get (v := .ref b) hC cI19 hM_0 4 (Nat.le_of_ble_eq_true rfl) q1947 rfl dJ34_remove_28 31 rfl ?_
  refine g_aload_n hC dJ34_remove_31 1 rfl gRef_r 32 rfl ?_
  refine g_get (v := .ref x) hC cI19 hM_0 0 (Nat.le_of_ble_eq_true rfl) q1943 rfl dJ34_remove_32 35 rfl ?_
  refine g_callq (g_V (As := [.ref x]) (rest := []) hC mvJ3_unlink q2069 (gOf.of hC.K cI17 hM_1) (met_LL_unlink_01 l G M b t0 t1 mc n fi la x ix y iy ny hn8 hyx hM_1 hM_2 hM_3) ⟨rfl, rfl⟩ ⟨(Nat.le_of_ble_eq_true rfl), (Nat.le_of_ble_eq_true rfl)⟩ rfl (Nat.le_of_ble_eq_true rfl) dJ34_remove_35 rfl ⟨(Nat.le_of_ble_eq_true rfl), (Nat.le_of_ble_eq_true rfl)⟩) 0 (Nat.le_of_ble_eq_true rfl) 0 (Nat.le_of_ble_eq_true rfl) 38 rfl (fun r5 M2 k3 hp4 => ?_)
  obtain ⟨rfl, hc6, hc7, hF8, hk9⟩ := hp4
  refine g_pop hC dJ34_remove_38 rfl 39 rfl ?_
  refine g_aload_n hC dJ34_remove_39 1 rfl gRef_r 40 rfl ?_
  refine g_get (v := .ref y) hC cI19 (hF8 _ _ _ hM_0 (gno (gne_c hM_0 hM_1 (by decide)) (gno (gne_c hM_0 hM_2 (by decide)) (gno (gne_c hM_0 hM_3 (by decide)) gno0)))) 1 (Nat.le_of_ble_eq_true rfl) q1944 rfl dJ34_remove_40 43 rfl ?_
  refine g_aload_n hC dJ34_remove_43 1 rfl gRef_r 44 rfl ?_
  refine g_get (v := .ref x) hC cI19 (hF8 _ _ _ hM_0 (gno (gne_c hM_0 hM_1 (by decide)) (gno (gne_c hM_0 hM_2 (by decide)) (gno (gne_c hM_0 hM_3 (by decide)) gno0)))) 0 (Nat.le_of_ble_eq_true rfl) q1943 rfl dJ34_remove_44 47 rfl ?_
  refine g_acmp_ne (rx := some y) (ry := some x) hC dJ34_remove_47 58 rfl 50 rfl (fun c_10 => ?_) (fun c_10 => ?_)
  · refine g_aload_n hC dJ34_remove_58 1 rfl gRef_r 59 rfl ?_
    refine g_dup hC dJ34_remove_59 rfl 60 rfl ?_
    refine g_get (v := .int (nI (i + 1))) hC cI19 (hF8 _ _ _ hM_0 (gno (gne_c hM_0 hM_1 (by decide)) (gno (gne_c hM_0 hM_2 (by decide)) (gno (gne_c hM_0 hM_3 (by decide)) gno0)))) 2 (Nat.le_of_ble_eq_true rfl) q1945 rfl dJ34_remove_60 63 rfl ?_
    refine g_iconst hC dJ34_remove_63 ki_1 64 rfl ?_
    refine g_isub hC dJ34_remove_64 65 rfl ?_
    refine g_topi (y := nI i) (nI_s (a := (i + 1)) (b := 1) (c := i) (by omega)) ?_
    refine g_put hC cI19 (hF8 _ _ _ hM_0 (gno (gne_c hM_0 hM_1 (by decide)) (gno (gne_c hM_0 hM_2 (by decide)) (gno (gne_c hM_0 hM_3 (by decide)) gno0)))) 2 (Nat.le_of_ble_eq_true rfl) q1945 rfl rfl rfl (Nat.le_of_ble_eq_true rfl) dJ34_remove_65 (fs' := [.ref x, .ref y, .int (nI i), .int mc, .ref b]) rfl 68 rfl (fun M11 hU12 => ?_)
    refine g_aload_n hC dJ34_remove_68 1 rfl gRef_r 69 rfl ?_
    refine g_null hC dJ34_remove_69 70 rfl ?_
    refine g_put hC cI19 hU12.1 0 (Nat.le_of_ble_eq_true rfl) q1943 rfl rfl rfl (Nat.le_of_ble_eq_true rfl) dJ34_remove_70 (fs' := [.null, .ref y, .int (nI i), .int mc, .ref b]) rfl 73 rfl (fun M13 hU14 => ?_)
    have hH15 := (hU14.n (gne_c (hU12.n (gne_c hc6 (hF8 _ _ _ hM_0 (gno (gne_c hM_0 hM_1 (by decide)) (gno (gne_c hM_0 hM_2 (by decide)) (gno (gne_c hM_0 hM_3 (by decide)) gno0)))) (by decide)) hc6) hU12.1 (by decide)) (hU12.n (gne_c hc6 (hF8 _ _ _ hM_0 (gno (gne_c hM_0 hM_1 (by decide)) (gno (gne_c hM_0 hM_2 (by decide)) (gno (gne_c hM_0 hM_3 (by decide)) gno0)))) (by decide)) hc6))
    have hH16 := (hU14.n (gne_c (hU12.n (gne_c hc7 (hF8 _ _ _ hM_0 (gno (gne_c hM_0 hM_1 (by decide)) (gno (gne_c hM_0 hM_2 (by decide)) (gno (gne_c hM_0 hM_3 (by decide)) gno0)))) (by decide)) hc7) hU12.1 (by decide)) (hU12.n (gne_c hc7 (hF8 _ _ _ hM_0 (gno (gne_c hM_0 hM_1 (by decide)) (gno (gne_c hM_0 hM_2 (by decide)) (gno (gne_c hM_0 hM_3 (by decide)) gno0)))) (by decide)) hc7))
    refine g_aload_n hC dJ34_remove_73 1 rfl gRef_r 74 rfl ?_
    refine g_dup hC dJ34_remove_74 rfl 75 rfl ?_
    refine g_get (v := .int mc) hC cI19 hU14.1 3 (Nat.le_of_ble_eq_true rfl) q1946 rfl dJ34_remove_75 78 rfl ?_
    refine g_iconst hC dJ34_remove_78 ki_1 79 rfl ?_
    refine g_iadd hC dJ34_remove_79 80 rfl ?_
    refine g_put hC cI19 hU14.1 3 (Nat.le_of_ble_eq_true rfl) q1946 rfl rfl rfl (Nat.le_of_ble_eq_true rfl) dJ34_remove_80 (fs' := [.null, .ref y, .int (nI i), .int (mc + 1), .ref b]) rfl 83 rfl (fun M17 hU18 => ?_)
    exact g_vret hC (fun k9 hk9 => ⟨(hU18.n (gne_c hH15 hU14.1 (by decide)) hH15), (hU18.n (gne_c hH16 hU14.1 (by decide)) hH16), hU18.1, ((((gFr.refl.trans (hF8.mono (by intro b t hb; simp at hb ⊢; first | done | (rcases hb with rfl | rfl | rfl | rfl <;> simp) | (simp [hb]; done)))).up hU12 (hF8 _ _ _ hM_0 (gno (gne_c hM_0 hM_1 (by decide)) (gno (gne_c hM_0 hM_2 (by decide)) (gno (gne_c hM_0 hM_3 (by decide)) gno0)))) (by simp)).up hU14 hU12.1 (by simp)).up hU18 hU14.1 (by simp)), (by first | exact Nat.le_zero.mp hk9 | omega)⟩) dJ34_remove_83 (Nat.le_of_ble_eq_true rfl) (Nat.le_of_ble_eq_true rfl)
  · exact absurd (Option.some.inj c_10) hyx
set_option maxHeartbeats 4000000 in
theorem met_LL_unlink_10 (l : Launch) (G : gG) (M : gM) (b : Nat) (t0 : Nat × Nat) (t1 : Nat × Nat) (mc : Int32) (n : Nat) (fi : Option Nat) (la : Option Nat) (x : Nat) (ix : Nat) (z : Nat) (iz : Nat) (pz : Option Nat) (hn8 : n ≤ 7) (hzx : z ≠ x) (hM_0 : M b = some (t0, .inr (17, [.int mc, .int (nI (n + 1)), va_rf fi, va_rf la]))) (hM_1 : M x = some (t1, .inr (18, [.ref ix, .null, .ref z]))) (hM_2 : M z = some (t1, .inr (18, [.ref iz, .ref x, va_rf pz]))) : Met l yJ3_unlink (ws_ yJ3_unlink cJ3_unlink 5 (some (.object "java/lang/Object"))) ({ frames := 1, cells := 0, slots := 0, locals := 40 }) (gPc G [.ref b, .ref x] M) (gQq G (fun r9 M9 k9 => r9 = (some ix) ∧ M9 b = some (t0, .inr (17, [.int (mc + 1), .int (nI n), va_rf fi, .ref z])) ∧ M9 z = some (t1, .inr (18, [.ref iz, .null, va_rf pz])) ∧ gFr (gL [b, x, z]) M M9 ∧ k9 = 0)) 0 0 (gA G) := by
  refine gMet [(0, .ref b), (1, .ref x)] (by decide) (Nat.le_of_ble_eq_true rfl) rfl ?_
  intro p e s m below meth c hC
  refine g_aload_n hC dJ3_unlink_0 1 rfl gRef_r 1 rfl ?_
  refine g_get (v := .ref ix) hC cI18 hM_1 0 (Nat.le_of_ble_eq_true rfl) q1789 rfl dJ3_unlink_1 4 rfl ?_
  refine g_astore_n hC dJ3_unlink_4 rfl gRef_r (Nat.le_of_ble_eq_true rfl) [(2, .ref ix), (0, .ref b), (1, .ref x)] rfl 5 rfl ?_
  refine g_aload_n hC dJ3_unlink_5 2 rfl gRef_r 6 rfl ?_
  refine g_get (v := .null) hC cI18 hM_1 1 (Nat.le_of_ble_eq_true rfl) q1792 rfl dJ3_unlink_6 9 rfl ?_
  refine g_astore_n hC dJ3_unlink_9 rfl gRef_n (Nat.le_of_ble_eq_true rfl) [(3, .null), (2, .ref ix), (0, .ref b), (1, .ref x)] rfl 10 rfl ?_
  refine g_aload_n hC dJ3_unlink_10 3 rfl gRef_r 11 rfl ?_
  refine g_get (v := .ref z) hC cI18 hM_1 2 (Nat.le_of_ble_eq_true rfl) q1794 rfl dJ3_unlink_11 14 rfl ?_
  refine g_astore hC dJ3_unlink_14 gRef_r (Nat.le_of_ble_eq_true rfl) [(4, .ref z), (3, .null), (2, .ref ix), (0, .ref b), (1, .ref x)] rfl 16 rfl ?_
  refine g_aload hC dJ3_unlink_16 0 rfl gRef_r 18 rfl ?_
  refine g_ifnonnull (r := some z) hC dJ3_unlink_18 29 rfl 21 rfl (fun _ _ => ?_) (fun q => by cases q)
  refine g_aload hC dJ3_unlink_29 0 rfl gRef_r 31 rfl ?_
  refine g_aload_n hC dJ3_unlink_31 1 rfl gRef_n 32 rfl ?_
  refine g_put hC cI18 hM_2 1 (Nat.le_of_ble_eq_true rfl) q1792 rfl rfl rfl (Nat.le_of_ble_eq_true rfl) dJ3_unlink_32 (fs' := [.ref iz, .null, va_rf pz]) rfl 35 rfl (fun M2 hU3 => ?_)
  refine g_aload_n hC dJ3_unlink_35 4 rfl gRef_r 36 rfl ?_
  refine g_null hC dJ3_unlink_36 37 rfl ?_
  refine g_put hC cI18 (hU3.n (Ne.symm hzx) hM_1) 2 (Nat.le_of_ble_eq_true rfl) q1794 rfl rfl rfl (Nat.le_of_ble_eq_true rfl) dJ3_unlink_37 (fs' := [.ref ix, .null, .null]) rfl 40 rfl (fun M4 hU5 => ?_)
  refine g_aload_n hC dJ3_unlink_40 1 rfl gRef_n 41 rfl ?_
  refine g_ifnonnull (r := none) hC dJ3_unlink_41 53 rfl 44 rfl (fun _ q => by cases q) (fun _ => ?_)
  refine g_aload_n hC dJ3_unlink_44 3 rfl gRef_r 45 rfl ?_
  refine g_aload hC dJ3_unlink_45 0 rfl gRef_r 47 rfl ?_
  refine g_put hC cI17 (hU5.n (gne_c (hU3.n (gne_c hM_0 hM_2 (by decide)) hM_0) (hU3.n (Ne.symm hzx) hM_1) (by decide)) (hU3.n (gne_c hM_0 hM_2 (by decide)) hM_0)) 3 (Nat.le_of_ble_eq_true rfl) q204 rfl rfl rfl (Nat.le_of_ble_eq_true rfl) dJ3_unlink_47 (fs' := [.int mc, .int (nI (n + 1)), va_rf fi, .ref z]) rfl 50 rfl (fun M7 hU8 => ?_)
  have hH9 := (hU8.n (gne_c hU5.1 (hU5.n (gne_c (hU3.n (gne_c hM_0 hM_2 (by decide)) hM_0) (hU3.n (Ne.symm hzx) hM_1) (by decide)) (hU3.n (gne_c hM_0 hM_2 (by decide)) hM_0)) (by decide)) hU5.1)
  have hH10 := (hU8.n (gne_c (hU5.n hzx hU3.1) (hU5.n (gne_c (hU3.n (gne_c hM_0 hM_2 (by decide)) hM_0) (hU3.n (Ne.symm hzx) hM_1) (by decide)) (hU3.n (gne_c hM_0 hM_2 (by decide)) hM_0)) (by decide)) (hU5.n hzx hU3.1))
  refine g_goto hC dJ3_unlink_50 64 rfl ?_
  refine g_aload_n hC dJ3_unlink_64 4 rfl gRef_r 65 rfl ?_
  refine g_null hC dJ3_unlink_65 66 rfl ?_
  refine g_put hC cI18 hH9 0 (Nat.le_of_ble_eq_true rfl) q1789 rfl rfl rfl (Nat.le_of_ble_eq_true rfl) dJ3_unlink_66 (fs' := [.null, .null, .null]) rfl 69 rfl (fun M11 hU12 => ?_)
  refine g_aload_n hC dJ3_unlink_69 3 rfl gRef_r 70 rfl ?_
  refine g_dup hC dJ3_unlink_70 rfl 71 rfl ?_
  refine g_get (v := .int (nI (n + 1))) hC cI17 (hU12.n (gne_c hU8.1 hH9 (by decide)) hU8.1) 1 (Nat.le_of_ble_eq_true rfl) q201 rfl dJ3_unlink_71 74 rfl ?_
  refine g_iconst hC dJ3_unlink_74 ki_1 75 rfl ?_
  refine g_isub hC dJ3_unlink_75 76 rfl ?_
  refine g_topi (y := nI n) (nI_s (a := (n + 1)) (b := 1) (c := n) (by omega)) ?_
  refine g_put hC cI17 (hU12.n (gne_c hU8.1 hH9 (by decide)) hU8.1) 1 (Nat.le_of_ble_eq_true rfl) q201 rfl rfl rfl (Nat.le_of_ble_eq_true rfl) dJ3_unlink_76 (fs' := [.int mc, .int (nI n), va_rf fi, .ref z]) rfl 79 rfl (fun M13 hU14 => ?_)
  refine g_aload_n hC dJ3_unlink_79 3 rfl gRef_r 80 rfl ?_
  refine g_dup hC dJ3_unlink_80 rfl 81 rfl ?_
  refine g_getU (v := .int mc) hC cI17 hU14.1 0 (Nat.le_of_ble_eq_true rfl) q211 q207 rfl dJ3_unlink_81 84 rfl ?_
  refine g_iconst hC dJ3_unlink_84 ki_1 85 rfl ?_
  refine g_iadd hC dJ3_unlink_85 86 rfl ?_
  refine g_putU hC cI17 hU14.1 0 (Nat.le_of_ble_eq_true rfl) q211 q207 rfl rfl rfl (Nat.le_of_ble_eq_true rfl) dJ3_unlink_86 (fs' := [.int (mc + 1), .int (nI n), va_rf fi, .ref z]) rfl 89 rfl (fun M15 hU16 => ?_)
  refine g_aload_n hC dJ3_unlink_89 2 rfl gRef_r 90 rfl ?_
  exact g_aret (v := some ix) hC (by first | exact Or.inl ⟨_, rfl⟩ | exact Or.inr ⟨_, rfl⟩) (fun k9 hk9 => ⟨rfl, hU16.1, (hU16.n (gne_c (hU14.n (gne_c (hU12.n hzx hH10) (hU12.n (gne_c hU8.1 hH9 (by decide)) hU8.1) (by decide)) (hU12.n hzx hH10)) hU14.1 (by decide)) (hU14.n (gne_c (hU12.n hzx hH10) (hU12.n (gne_c hU8.1 hH9 (by decide)) hU8.1) (by decide)) (hU12.n hzx hH10))), ((((((gFr.refl.up hU3 hM_2 (by simp)).up hU5 (hU3.n (Ne.symm hzx) hM_1) (by simp)).up hU8 (hU5.n (gne_c (hU3.n (gne_c hM_0 hM_2 (by decide)) hM_0) (hU3.n (Ne.symm hzx) hM_1) (by decide)) (hU3.n (gne_c hM_0 hM_2 (by decide)) hM_0)) (by simp)).up hU12 hH9 (by simp)).up hU14 (hU12.n (gne_c hU8.1 hH9 (by decide)) hU8.1) (by simp)).up hU16 hU14.1 (by simp)), (by first | exact Nat.le_zero.mp hk9 | omega)⟩) dJ3_unlink_90 (Nat.le_of_ble_eq_true rfl) (Nat.le_of_ble_eq_true rfl)
set_option maxHeartbeats 4000000 in
theorem met_LLi_rem_10 (l : Launch) (G : gG) (M : gM) (b : Nat) (t0 : Nat × Nat) (t1 : Nat × Nat) (mc : Int32) (n : Nat) (fi : Option Nat) (la : Option Nat) (x : Nat) (ix : Nat) (z : Nat) (iz : Nat) (pz : Option Nat) (i9 : Nat) (i : Nat) (hn8 : n ≤ 7) (hzx : z ≠ x) (hi8 : i ≤ 7) (hM_0 : M i9 = some ((9, 0), .inr (19, [.ref x, .null, .int (nI (i + 1)), .int mc, .ref b]))) (hM_1 : M b = some (t0, .inr (17, [.int mc, .int (nI (n + 1)), va_rf fi, va_rf la]))) (hM_2 : M x = some (t1, .inr (18, [.ref ix, .null, .ref z]))) (hM_3 : M z = some (t1, .inr (18, [.ref iz, .ref x, va_rf pz]))) : Met l yJ34_remove (ws_ yJ34_remove cJ34_remove 2 none) ({ frames := 2, cells := 0, slots := 0, locals := 70 }) (gPc G [.ref i9] M) (gQv G (fun M9 k9 => M9 b = some (t0, .inr (17, [.int (mc + 1), .int (nI n), va_rf fi, .ref z])) ∧ M9 z = some (t1, .inr (18, [.ref iz, .null, va_rf pz])) ∧ M9 i9 = some ((9, 0), .inr (19, [.null, .null, .int (nI i), .int (mc + 1), .ref b])) ∧ gFr (gL [b, x, z, i9]) M M9 ∧ k9 = 0)) 0 0 (gA G) := by
  refine gMet [(0, .ref i9)] (by decide) (Nat.le_of_ble_eq_true rfl) rfl ?_
  intro p e s m below meth c hC
  refine g_aload_n hC dJ34_remove_0 0 rfl gRef_r 1 rfl ?_
  refine g_callvP (g_V (As := []) (rest := []) hC mvJ34_checkForComodification q1711 (gOf.of hC.K cI19 hM_0) (met_LLi_chk l G M b t0 t1 mc (n + 1) fi la i9 (i + 1) (some x) none (by first | assumption | decide | omega | (dsimp only; omega) | simp_all) (by first | assumption | decide | omega | (dsimp only; omega) | simp_all) hM_0 hM_1) ⟨rfl, rfl⟩ ⟨(Nat.le_of_ble_eq_true rfl), (Nat.le_of_ble_eq_true rfl)⟩ rfl (Nat.le_of_ble_eq_true rfl) dJ34_remove_1 rfl ⟨(Nat.le_of_ble_eq_true rfl), (Nat.le_of_ble_eq_true rfl)⟩) 4 rfl 0 (Nat.le_of_ble_eq_true rfl) ?_
  refine g_aload_n hC dJ34_remove_4 0 rfl gRef_r 5 rfl ?_
  refine g_get (v := .ref x) hC cI19 hM_0 0 (Nat.le_of_ble_eq_true rfl) q1943 rfl dJ34_remove_5 8 rfl ?_
  refine g_ifnonnull (r := some x) hC dJ34_remove_8 19 rfl 11 rfl (fun _ _ => ?_) (fun q => by cases q)
  refine g_aload_n hC dJ34_remove_19 0 rfl gRef_r 20 rfl ?_
  refine g_get (v := .ref x) hC cI19 hM_0 0 (Nat.le_of_ble_eq_true rfl) q1943 rfl dJ34_remove_20 23 rfl ?_
  refine g_get (v := .null) hC cI18 hM_2 1 (Nat.le_of_ble_eq_true rfl) q1791 rfl dJ34_remove_23 26 rfl ?_
  refine g_astore_n hC dJ34_remove_26 rfl gRef_n (Nat.le_of_ble_eq_true rfl) [(1, .null), (0, .ref i9)] rfl 27 rfl ?_
  refine g_aload_n hC dJ34_remove_27 1 rfl gRef_r 28 rfl ?_
  refine g_get (v := .ref b) hC cI19 hM_0 4 (Nat.le_of_ble_eq_true rfl) q1947 rfl dJ34_remove_28 31 rfl ?_
  refine g_aload_n hC dJ34_remove_31 1 rfl gRef_r 32 rfl ?_
  refine g_get (v := .ref x) hC cI19 hM_0 0 (Nat.le_of_ble_eq_true rfl) q1943 rfl dJ34_remove_32 35 rfl ?_
  refine g_callq (g_V (As := [.ref x]) (rest := []) hC mvJ3_unlink q2069 (gOf.of hC.K cI17 hM_1) (met_LL_unlink_10 l G M b t0 t1 mc n fi la x ix z iz pz hn8 hzx hM_1 hM_2 hM_3) ⟨rfl, rfl⟩ ⟨(Nat.le_of_ble_eq_true rfl), (Nat.le_of_ble_eq_true rfl)⟩ rfl (Nat.le_of_ble_eq_true rfl) dJ34_remove_35 rfl ⟨(Nat.le_of_ble_eq_true rfl), (Nat.le_of_ble_eq_true rfl)⟩) 0 (Nat.le_of_ble_eq_true rfl) 0 (Nat.le_of_ble_eq_true rfl) 38 rfl (fun r5 M2 k3 hp4 => ?_)
  obtain ⟨rfl, hc6, hc7, hF8, hk9⟩ := hp4
  refine g_pop hC dJ34_remove_38 rfl 39 rfl ?_
  refine g_aload_n hC dJ34_remove_39 1 rfl gRef_r 40 rfl ?_
  refine g_get (v := .null) hC cI19 (hF8 _ _ _ hM_0 (gno (gne_c hM_0 hM_1 (by decide)) (gno (gne_c hM_0 hM_2 (by decide)) (gno (gne_c hM_0 hM_3 (by decide)) gno0)))) 1 (Nat.le_of_ble_eq_true rfl) q1944 rfl dJ34_remove_40 43 rfl ?_
  refine g_aload_n hC dJ34_remove_43 1 rfl gRef_r 44 rfl ?_
  refine g_get (v := .ref x) hC cI19 (hF8 _ _ _ hM_0 (gno (gne_c hM_0 hM_1 (by decide)) (gno (gne_c hM_0 hM_2 (by decide)) (gno (gne_c hM_0 hM_3 (by decide)) gno0)))) 0 (Nat.le_of_ble_eq_true rfl) q1943 rfl dJ34_remove_44 47 rfl ?_
  refine g_acmp_ne (rx := none) (ry := some x) hC dJ34_remove_47 58 rfl 50 rfl (fun c_10 => ?_) (fun c_10 => ?_)
  · refine g_aload_n hC dJ34_remove_58 1 rfl gRef_r 59 rfl ?_
    refine g_dup hC dJ34_remove_59 rfl 60 rfl ?_
    refine g_get (v := .int (nI (i + 1))) hC cI19 (hF8 _ _ _ hM_0 (gno (gne_c hM_0 hM_1 (by decide)) (gno (gne_c hM_0 hM_2 (by decide)) (gno (gne_c hM_0 hM_3 (by decide)) gno0)))) 2 (Nat.le_of_ble_eq_true rfl) q1945 rfl dJ34_remove_60 63 rfl ?_
    refine g_iconst hC dJ34_remove_63 ki_1 64 rfl ?_
    refine g_isub hC dJ34_remove_64 65 rfl ?_
    refine g_topi (y := nI i) (nI_s (a := (i + 1)) (b := 1) (c := i) (by omega)) ?_
    refine g_put hC cI19 (hF8 _ _ _ hM_0 (gno (gne_c hM_0 hM_1 (by decide)) (gno (gne_c hM_0 hM_2 (by decide)) (gno (gne_c hM_0 hM_3 (by decide)) gno0)))) 2 (Nat.le_of_ble_eq_true rfl) q1945 rfl rfl rfl (Nat.le_of_ble_eq_true rfl) dJ34_remove_65 (fs' := [.ref x, .null, .int (nI i), .int mc, .ref b]) rfl 68 rfl (fun M11 hU12 => ?_)
    refine g_aload_n hC dJ34_remove_68 1 rfl gRef_r 69 rfl ?_
    refine g_null hC dJ34_remove_69 70 rfl ?_
    refine g_put hC cI19 hU12.1 0 (Nat.le_of_ble_eq_true rfl) q1943 rfl rfl rfl (Nat.le_of_ble_eq_true rfl) dJ34_remove_70 (fs' := [.null, .null, .int (nI i), .int mc, .ref b]) rfl 73 rfl (fun M13 hU14 => ?_)
    have hH15 := (hU14.n (gne_c (hU12.n (gne_c hc6 (hF8 _ _ _ hM_0 (gno (gne_c hM_0 hM_1 (by decide)) (gno (gne_c hM_0 hM_2 (by decide)) (gno (gne_c hM_0 hM_3 (by decide)) gno0)))) (by decide)) hc6) hU12.1 (by decide)) (hU12.n (gne_c hc6 (hF8 _ _ _ hM_0 (gno (gne_c hM_0 hM_1 (by decide)) (gno (gne_c hM_0 hM_2 (by decide)) (gno (gne_c hM_0 hM_3 (by decide)) gno0)))) (by decide)) hc6))
    have hH16 := (hU14.n (gne_c (hU12.n (gne_c hc7 (hF8 _ _ _ hM_0 (gno (gne_c hM_0 hM_1 (by decide)) (gno (gne_c hM_0 hM_2 (by decide)) (gno (gne_c hM_0 hM_3 (by decide)) gno0)))) (by decide)) hc7) hU12.1 (by decide)) (hU12.n (gne_c hc7 (hF8 _ _ _ hM_0 (gno (gne_c hM_0 hM_1 (by decide)) (gno (gne_c hM_0 hM_2 (by decide)) (gno (gne_c hM_0 hM_3 (by decide)) gno0)))) (by decide)) hc7))
    refine g_aload_n hC dJ34_remove_73 1 rfl gRef_r 74 rfl ?_
    refine g_dup hC dJ34_remove_74 rfl 75 rfl ?_
    refine g_get (v := .int mc) hC cI19 hU14.1 3 (Nat.le_of_ble_eq_true rfl) q1946 rfl dJ34_remove_75 78 rfl ?_
    refine g_iconst hC dJ34_remove_78 ki_1 79 rfl ?_
    refine g_iadd hC dJ34_remove_79 80 rfl ?_
    refine g_put hC cI19 hU14.1 3 (Nat.le_of_ble_eq_true rfl) q1946 rfl rfl rfl (Nat.le_of_ble_eq_true rfl) dJ34_remove_80 (fs' := [.null, .null, .int (nI i), .int (mc + 1), .ref b]) rfl 83 rfl (fun M17 hU18 => ?_)
    exact g_vret hC (fun k9 hk9 => ⟨(hU18.n (gne_c hH15 hU14.1 (by decide)) hH15), (hU18.n (gne_c hH16 hU14.1 (by decide)) hH16), hU18.1, ((((gFr.refl.trans (hF8.mono (by intro b t hb; simp at hb ⊢; first | done | (rcases hb with rfl | rfl | rfl | rfl <;> simp) | (simp [hb]; done)))).up hU12 (hF8 _ _ _ hM_0 (gno (gne_c hM_0 hM_1 (by decide)) (gno (gne_c hM_0 hM_2 (by decide)) (gno (gne_c hM_0 hM_3 (by decide)) gno0)))) (by simp)).up hU14 hU12.1 (by simp)).up hU18 hU14.1 (by simp)), (by first | exact Nat.le_zero.mp hk9 | omega)⟩) dJ34_remove_83 (Nat.le_of_ble_eq_true rfl) (Nat.le_of_ble_eq_true rfl)
  · cases c_10
set_option maxHeartbeats 4000000 in
theorem met_LL_unlink_11 (l : Launch) (G : gG) (M : gM) (b : Nat) (t0 : Nat × Nat) (t1 : Nat × Nat) (mc : Int32) (n : Nat) (fi : Option Nat) (la : Option Nat) (x : Nat) (ix : Nat) (z : Nat) (iz : Nat) (pz : Option Nat) (y : Nat) (iy : Nat) (ny : Option Nat) (hn8 : n ≤ 7) (hzx : z ≠ x) (hyx : y ≠ x) (hzy : z ≠ y) (hM_0 : M b = some (t0, .inr (17, [.int mc, .int (nI (n + 1)), va_rf fi, va_rf la]))) (hM_1 : M x = some (t1, .inr (18, [.ref ix, .ref y, .ref z]))) (hM_2 : M z = some (t1, .inr (18, [.ref iz, .ref x, va_rf pz]))) (hM_3 : M y = some (t1, .inr (18, [.ref iy, va_rf ny, .ref x]))) : Met l yJ3_unlink (ws_ yJ3_unlink cJ3_unlink 5 (some (.object "java/lang/Object"))) ({ frames := 1, cells := 0, slots := 0, locals := 40 }) (gPc G [.ref b, .ref x] M) (gQq G (fun r9 M9 k9 => r9 = (some ix) ∧ M9 b = some (t0, .inr (17, [.int (mc + 1), .int (nI n), va_rf fi, va_rf la])) ∧ M9 z = some (t1, .inr (18, [.ref iz, .ref y, va_rf pz])) ∧ M9 y = some (t1, .inr (18, [.ref iy, va_rf ny, .ref z])) ∧ gFr (gL [b, x, z, y]) M M9 ∧ k9 = 0)) 0 0 (gA G) := by
  refine gMet [(0, .ref b), (1, .ref x)] (by decide) (Nat.le_of_ble_eq_true rfl) rfl ?_
  intro p e s m below meth c hC
  refine g_aload_n hC dJ3_unlink_0 1 rfl gRef_r 1 rfl ?_
  refine g_get (v := .ref ix) hC cI18 hM_1 0 (Nat.le_of_ble_eq_true rfl) q1789 rfl dJ3_unlink_1 4 rfl ?_
  refine g_astore_n hC dJ3_unlink_4 rfl gRef_r (Nat.le_of_ble_eq_true rfl) [(2, .ref ix), (0, .ref b), (1, .ref x)] rfl 5 rfl ?_
  refine g_aload_n hC dJ3_unlink_5 2 rfl gRef_r 6 rfl ?_
  refine g_get (v := .ref y) hC cI18 hM_1 1 (Nat.le_of_ble_eq_true rfl) q1792 rfl dJ3_unlink_6 9 rfl ?_
  refine g_astore_n hC dJ3_unlink_9 rfl gRef_r (Nat.le_of_ble_eq_true rfl) [(3, .ref y), (2, .ref ix), (0, .ref b), (1, .ref x)] rfl 10 rfl ?_
  refine g_aload_n hC dJ3_unlink_10 3 rfl gRef_r 11 rfl ?_
  refine g_get (v := .ref z) hC cI18 hM_1 2 (Nat.le_of_ble_eq_true rfl) q1794 rfl dJ3_unlink_11 14 rfl ?_
  refine g_astore hC dJ3_unlink_14 gRef_r (Nat.le_of_ble_eq_true rfl) [(4, .ref z), (3, .ref y), (2, .ref ix), (0, .ref b), (1, .ref x)] rfl 16 rfl ?_
  refine g_aload hC dJ3_unlink_16 0 rfl gRef_r 18 rfl ?_
  refine g_ifnonnull (r := some z) hC dJ3_unlink_18 29 rfl 21 rfl (fun _ _ => ?_) (fun q => by cases q)
  refine g_aload hC dJ3_unlink_29 0 rfl gRef_r 31 rfl ?_
  refine g_aload_n hC dJ3_unlink_31 1 rfl gRef_r 32 rfl ?_
  refine g_put hC cI18 hM_2 1 (Nat.le_of_ble_eq_true rfl) q1792 rfl rfl rfl (Nat.le_of_ble_eq_true rfl) dJ3_unlink_32 (fs' := [.ref iz, .ref y, va_rf pz]) rfl 35 rfl (fun M2 hU3 => ?_)
  refine g_aload_n hC dJ3_unlink_35 4 rfl gRef_r 36 rfl ?_
  refine g_null hC dJ3_unlink_36 37 rfl ?_
  refine g_put hC cI18 (hU3.n (Ne.symm hzx) hM_1) 2 (Nat.le_of_ble_eq_true rfl) q1794 rfl rfl rfl (Nat.le_of_ble_eq_true rfl) dJ3_unlink_37 (fs' := [.ref ix, .ref y, .null]) rfl 40 rfl (fun M4 hU5 => ?_)
  refine g_aload_n hC dJ3_unlink_40 1 rfl gRef_r 41 rfl ?_
  refine g_ifnonnull (r := some y) hC dJ3_unlink_41 53 rfl 44 rfl (fun _ _ => ?_) (fun q => by cases q)
  refine g_aload_n hC dJ3_unlink_53 1 rfl gRef_r 54 rfl ?_
  refine g_aload hC dJ3_unlink_54 0 rfl gRef_r 56 rfl ?_
  refine g_put hC cI18 (hU5.n hyx (hU3.n (Ne.symm hzy) hM_3)) 2 (Nat.le_of_ble_eq_true rfl) q1794 rfl rfl rfl (Nat.le_of_ble_eq_true rfl) dJ3_unlink_56 (fs' := [.ref iy, va_rf ny, .ref z]) rfl 59 rfl (fun M7 hU8 => ?_)
  have hH9 := (hU8.n (Ne.symm hyx) hU5.1)
  have hH10 := (hU8.n hzy (hU5.n hzx hU3.1))
  have hH11 := (hU8.n (gne_c (hU5.n (gne_c (hU3.n (gne_c hM_0 hM_2 (by decide)) hM_0) (hU3.n (Ne.symm hzx) hM_1) (by decide)) (hU3.n (gne_c hM_0 hM_2 (by decide)) hM_0)) (hU5.n hyx (hU3.n (Ne.symm hzy) hM_3)) (by decide)) (hU5.n (gne_c (hU3.n (gne_c hM_0 hM_2 (by decide)) hM_0) (hU3.n (Ne.symm hzx) hM_1) (by decide)) (hU3.n (gne_c hM_0 hM_2 (by decide)) hM_0)))
  refine g_aload_n hC dJ3_unlink_59 4 rfl gRef_r 60 rfl ?_
  refine g_null hC dJ3_unlink_60 61 rfl ?_
  refine g_put hC cI18 hH9 1 (Nat.le_of_ble_eq_true rfl) q1792 rfl rfl rfl (Nat.le_of_ble_eq_true rfl) dJ3_unlink_61 (fs' := [.ref ix, .null, .null]) rfl 64 rfl (fun M12 hU13 => ?_)
  refine g_aload_n hC dJ3_unlink_64 4 rfl gRef_r 65 rfl ?_
  refine g_null hC dJ3_unlink_65 66 rfl ?_
  refine g_put hC cI18 hU13.1 0 (Nat.le_of_ble_eq_true rfl) q1789 rfl rfl rfl (Nat.le_of_ble_eq_true rfl) dJ3_unlink_66 (fs' := [.null, .null, .null]) rfl 69 rfl (fun M14 hU15 => ?_)
  refine g_aload_n hC dJ3_unlink_69 3 rfl gRef_r 70 rfl ?_
  refine g_dup hC dJ3_unlink_70 rfl 71 rfl ?_
  refine g_get (v := .int (nI (n + 1))) hC cI17 (hU15.n (gne_c (hU13.n (gne_c hH11 hH9 (by decide)) hH11) hU13.1 (by decide)) (hU13.n (gne_c hH11 hH9 (by decide)) hH11)) 1 (Nat.le_of_ble_eq_true rfl) q201 rfl dJ3_unlink_71 74 rfl ?_
  refine g_iconst hC dJ3_unlink_74 ki_1 75 rfl ?_
  refine g_isub hC dJ3_unlink_75 76 rfl ?_
  refine g_topi (y := nI n) (nI_s (a := (n + 1)) (b := 1) (c := n) (by omega)) ?_
  refine g_put hC cI17 (hU15.n (gne_c (hU13.n (gne_c hH11 hH9 (by decide)) hH11) hU13.1 (by decide)) (hU13.n (gne_c hH11 hH9 (by decide)) hH11)) 1 (Nat.le_of_ble_eq_true rfl) q201 rfl rfl rfl (Nat.le_of_ble_eq_true rfl) dJ3_unlink_76 (fs' := [.int mc, .int (nI n), va_rf fi, va_rf la]) rfl 79 rfl (fun M16 hU17 => ?_)
  refine g_aload_n hC dJ3_unlink_79 3 rfl gRef_r 80 rfl ?_
  refine g_dup hC dJ3_unlink_80 rfl 81 rfl ?_
  refine g_getU (v := .int mc) hC cI17 hU17.1 0 (Nat.le_of_ble_eq_true rfl) q211 q207 rfl dJ3_unlink_81 84 rfl ?_
  refine g_iconst hC dJ3_unlink_84 ki_1 85 rfl ?_
  refine g_iadd hC dJ3_unlink_85 86 rfl ?_
  refine g_putU hC cI17 hU17.1 0 (Nat.le_of_ble_eq_true rfl) q211 q207 rfl rfl rfl (Nat.le_of_ble_eq_true rfl) dJ3_unlink_86 (fs' := [.int (mc + 1), .int (nI n), va_rf fi, va_rf la]) rfl 89 rfl (fun M18 hU19 => ?_)
  have hH20 := (hU19.n (gne_c (hU17.n (gne_c hU15.1 (hU15.n (gne_c (hU13.n (gne_c hH11 hH9 (by decide)) hH11) hU13.1 (by decide)) (hU13.n (gne_c hH11 hH9 (by decide)) hH11)) (by decide)) hU15.1) hU17.1 (by decide)) (hU17.n (gne_c hU15.1 (hU15.n (gne_c (hU13.n (gne_c hH11 hH9 (by decide)) hH11) hU13.1 (by decide)) (hU13.n (gne_c hH11 hH9 (by decide)) hH11)) (by decide)) hU15.1))
  have hH21 := (hU19.n (gne_c (hU17.n (gne_c (hU15.n hyx (hU13.n hyx hU8.1)) (hU15.n (gne_c (hU13.n (gne_c hH11 hH9 (by decide)) hH11) hU13.1 (by decide)) (hU13.n (gne_c hH11 hH9 (by decide)) hH11)) (by decide)) (hU15.n hyx (hU13.n hyx hU8.1))) hU17.1 (by decide)) (hU17.n (gne_c (hU15.n hyx (hU13.n hyx hU8.1)) (hU15.n (gne_c (hU13.n (gne_c hH11 hH9 (by decide)) hH11) hU13.1 (by decide)) (hU13.n (gne_c hH11 hH9 (by decide)) hH11)) (by decide)) (hU15.n hyx (hU13.n hyx hU8.1))))
  have hH22 := (hU19.n (gne_c (hU17.n (gne_c (hU15.n hzx (hU13.n hzx hH10)) (hU15.n (gne_c (hU13.n (gne_c hH11 hH9 (by decide)) hH11) hU13.1 (by decide)) (hU13.n (gne_c hH11 hH9 (by decide)) hH11)) (by decide)) (hU15.n hzx (hU13.n hzx hH10))) hU17.1 (by decide)) (hU17.n (gne_c (hU15.n hzx (hU13.n hzx hH10)) (hU15.n (gne_c (hU13.n (gne_c hH11 hH9 (by decide)) hH11) hU13.1 (by decide)) (hU13.n (gne_c hH11 hH9 (by decide)) hH11)) (by decide)) (hU15.n hzx (hU13.n hzx hH10))))
  refine g_aload_n hC dJ3_unlink_89 2 rfl gRef_r 90 rfl ?_
  exact g_aret (v := some ix) hC (by first | exact Or.inl ⟨_, rfl⟩ | exact Or.inr ⟨_, rfl⟩) (fun k9 hk9 => ⟨rfl, hU19.1, hH22, hH21, (((((((gFr.refl.up hU3 hM_2 (by simp)).up hU5 (hU3.n (Ne.symm hzx) hM_1) (by simp)).up hU8 (hU5.n hyx (hU3.n (Ne.symm hzy) hM_3)) (by simp)).up hU13 hH9 (by simp)).up hU15 hU13.1 (by simp)).up hU17 (hU15.n (gne_c (hU13.n (gne_c hH11 hH9 (by decide)) hH11) hU13.1 (by decide)) (hU13.n (gne_c hH11 hH9 (by decide)) hH11)) (by simp)).up hU19 hU17.1 (by simp)), (by first | exact Nat.le_zero.mp hk9 | omega)⟩) dJ3_unlink_90 (Nat.le_of_ble_eq_true rfl) (Nat.le_of_ble_eq_true rfl)
set_option maxHeartbeats 4000000 in
theorem met_LLi_rem_11 (l : Launch) (G : gG) (M : gM) (b : Nat) (t0 : Nat × Nat) (t1 : Nat × Nat) (mc : Int32) (n : Nat) (fi : Option Nat) (la : Option Nat) (x : Nat) (ix : Nat) (z : Nat) (iz : Nat) (pz : Option Nat) (y : Nat) (iy : Nat) (ny : Option Nat) (i9 : Nat) (i : Nat) (hn8 : n ≤ 7) (hzx : z ≠ x) (hyx : y ≠ x) (hzy : z ≠ y) (hi8 : i ≤ 7) (hM_0 : M i9 = some ((9, 0), .inr (19, [.ref x, .ref y, .int (nI (i + 1)), .int mc, .ref b]))) (hM_1 : M b = some (t0, .inr (17, [.int mc, .int (nI (n + 1)), va_rf fi, va_rf la]))) (hM_2 : M x = some (t1, .inr (18, [.ref ix, .ref y, .ref z]))) (hM_3 : M z = some (t1, .inr (18, [.ref iz, .ref x, va_rf pz]))) (hM_4 : M y = some (t1, .inr (18, [.ref iy, va_rf ny, .ref x]))) : Met l yJ34_remove (ws_ yJ34_remove cJ34_remove 2 none) ({ frames := 2, cells := 0, slots := 0, locals := 70 }) (gPc G [.ref i9] M) (gQv G (fun M9 k9 => M9 b = some (t0, .inr (17, [.int (mc + 1), .int (nI n), va_rf fi, va_rf la])) ∧ M9 z = some (t1, .inr (18, [.ref iz, .ref y, va_rf pz])) ∧ M9 y = some (t1, .inr (18, [.ref iy, va_rf ny, .ref z])) ∧ M9 i9 = some ((9, 0), .inr (19, [.null, .ref y, .int (nI i), .int (mc + 1), .ref b])) ∧ gFr (gL [b, x, z, y, i9]) M M9 ∧ k9 = 0)) 0 0 (gA G) := by
  refine gMet [(0, .ref i9)] (by decide) (Nat.le_of_ble_eq_true rfl) rfl ?_
  intro p e s m below meth c hC
  refine g_aload_n hC dJ34_remove_0 0 rfl gRef_r 1 rfl ?_
  refine g_callvP (g_V (As := []) (rest := []) hC mvJ34_checkForComodification q1711 (gOf.of hC.K cI19 hM_0) (met_LLi_chk l G M b t0 t1 mc (n + 1) fi la i9 (i + 1) (some x) (some y) (by first | assumption | decide | omega | (dsimp only; omega) | simp_all) (by first | assumption | decide | omega | (dsimp only; omega) | simp_all) hM_0 hM_1) ⟨rfl, rfl⟩ ⟨(Nat.le_of_ble_eq_true rfl), (Nat.le_of_ble_eq_true rfl)⟩ rfl (Nat.le_of_ble_eq_true rfl) dJ34_remove_1 rfl ⟨(Nat.le_of_ble_eq_true rfl), (Nat.le_of_ble_eq_true rfl)⟩) 4 rfl 0 (Nat.le_of_ble_eq_true rfl) ?_
  refine g_aload_n hC dJ34_remove_4 0 rfl gRef_r 5 rfl ?_
  refine g_get (v := .ref x) hC cI19 hM_0 0 (Nat.le_of_ble_eq_true rfl) q1943 rfl dJ34_remove_5 8 rfl ?_
  refine g_ifnonnull (r := some x) hC dJ34_remove_8 19 rfl 11 rfl (fun _ _ => ?_) (fun q => by cases q)
  refine g_aload_n hC dJ34_remove_19 0 rfl gRef_r 20 rfl ?_
  refine g_get (v := .ref x) hC cI19 hM_0 0 (Nat.le_of_ble_eq_true rfl) q1943 rfl dJ34_remove_20 23 rfl ?_
  refine g_get (v := .ref y) hC cI18 hM_2 1 (Nat.le_of_ble_eq_true rfl) q1791 rfl dJ34_remove_23 26 rfl ?_
  refine g_astore_n hC dJ34_remove_26 rfl gRef_r (Nat.le_of_ble_eq_true rfl) [(1, .ref y), (0, .ref i9)] rfl 27 rfl ?_
  refine g_aload_n hC dJ34_remove_27 1 rfl gRef_r 28 rfl ?_
  refine g_get (v := .ref b) hC cI19 hM_0 4 (Nat.le_of_ble_eq_true rfl) q1947 rfl dJ34_remove_28 31 rfl ?_
  refine g_aload_n hC dJ34_remove_31 1 rfl gRef_r 32 rfl ?_
  refine g_get (v := .ref x) hC cI19 hM_0 0 (Nat.le_of_ble_eq_true rfl) q1943 rfl dJ34_remove_32 35 rfl ?_
  refine g_callq (g_V (As := [.ref x]) (rest := []) hC mvJ3_unlink q2069 (gOf.of hC.K cI17 hM_1) (met_LL_unlink_11 l G M b t0 t1 mc n fi la x ix z iz pz y iy ny hn8 hzx hyx hzy hM_1 hM_2 hM_3 hM_4) ⟨rfl, rfl⟩ ⟨(Nat.le_of_ble_eq_true rfl), (Nat.le_of_ble_eq_true rfl)⟩ rfl (Nat.le_of_ble_eq_true rfl) dJ34_remove_35 rfl ⟨(Nat.le_of_ble_eq_true rfl), (Nat.le_of_ble_eq_true rfl)⟩) 0 (Nat.le_of_ble_eq_true rfl) 0 (Nat.le_of_ble_eq_true rfl) 38 rfl (fun r5 M2 k3 hp4 => ?_)
  obtain ⟨rfl, hc6, hc7, hc8, hF9, hk10⟩ := hp4
  refine g_pop hC dJ34_remove_38 rfl 39 rfl ?_
  refine g_aload_n hC dJ34_remove_39 1 rfl gRef_r 40 rfl ?_
  refine g_get (v := .ref y) hC cI19 (hF9 _ _ _ hM_0 (gno (gne_c hM_0 hM_1 (by decide)) (gno (gne_c hM_0 hM_2 (by decide)) (gno (gne_c hM_0 hM_3 (by decide)) (gno (gne_c hM_0 hM_4 (by decide)) gno0))))) 1 (Nat.le_of_ble_eq_true rfl) q1944 rfl dJ34_remove_40 43 rfl ?_
  refine g_aload_n hC dJ34_remove_43 1 rfl gRef_r 44 rfl ?_
  refine g_get (v := .ref x) hC cI19 (hF9 _ _ _ hM_0 (gno (gne_c hM_0 hM_1 (by decide)) (gno (gne_c hM_0 hM_2 (by decide)) (gno (gne_c hM_0 hM_3 (by decide)) (gno (gne_c hM_0 hM_4 (by decide)) gno0))))) 0 (Nat.le_of_ble_eq_true rfl) q1943 rfl dJ34_remove_44 47 rfl ?_
  refine g_acmp_ne (rx := some y) (ry := some x) hC dJ34_remove_47 58 rfl 50 rfl (fun c_11 => ?_) (fun c_11 => ?_)
  · refine g_aload_n hC dJ34_remove_58 1 rfl gRef_r 59 rfl ?_
    refine g_dup hC dJ34_remove_59 rfl 60 rfl ?_
    refine g_get (v := .int (nI (i + 1))) hC cI19 (hF9 _ _ _ hM_0 (gno (gne_c hM_0 hM_1 (by decide)) (gno (gne_c hM_0 hM_2 (by decide)) (gno (gne_c hM_0 hM_3 (by decide)) (gno (gne_c hM_0 hM_4 (by decide)) gno0))))) 2 (Nat.le_of_ble_eq_true rfl) q1945 rfl dJ34_remove_60 63 rfl ?_
    refine g_iconst hC dJ34_remove_63 ki_1 64 rfl ?_
    refine g_isub hC dJ34_remove_64 65 rfl ?_
    refine g_topi (y := nI i) (nI_s (a := (i + 1)) (b := 1) (c := i) (by omega)) ?_
    refine g_put hC cI19 (hF9 _ _ _ hM_0 (gno (gne_c hM_0 hM_1 (by decide)) (gno (gne_c hM_0 hM_2 (by decide)) (gno (gne_c hM_0 hM_3 (by decide)) (gno (gne_c hM_0 hM_4 (by decide)) gno0))))) 2 (Nat.le_of_ble_eq_true rfl) q1945 rfl rfl rfl (Nat.le_of_ble_eq_true rfl) dJ34_remove_65 (fs' := [.ref x, .ref y, .int (nI i), .int mc, .ref b]) rfl 68 rfl (fun M12 hU13 => ?_)
    refine g_aload_n hC dJ34_remove_68 1 rfl gRef_r 69 rfl ?_
    refine g_null hC dJ34_remove_69 70 rfl ?_
    refine g_put hC cI19 hU13.1 0 (Nat.le_of_ble_eq_true rfl) q1943 rfl rfl rfl (Nat.le_of_ble_eq_true rfl) dJ34_remove_70 (fs' := [.null, .ref y, .int (nI i), .int mc, .ref b]) rfl 73 rfl (fun M14 hU15 => ?_)
    have hH16 := (hU15.n (gne_c (hU13.n (gne_c hc6 (hF9 _ _ _ hM_0 (gno (gne_c hM_0 hM_1 (by decide)) (gno (gne_c hM_0 hM_2 (by decide)) (gno (gne_c hM_0 hM_3 (by decide)) (gno (gne_c hM_0 hM_4 (by decide)) gno0))))) (by decide)) hc6) hU13.1 (by decide)) (hU13.n (gne_c hc6 (hF9 _ _ _ hM_0 (gno (gne_c hM_0 hM_1 (by decide)) (gno (gne_c hM_0 hM_2 (by decide)) (gno (gne_c hM_0 hM_3 (by decide)) (gno (gne_c hM_0 hM_4 (by decide)) gno0))))) (by decide)) hc6))
    have hH17 := (hU15.n (gne_c (hU13.n (gne_c hc7 (hF9 _ _ _ hM_0 (gno (gne_c hM_0 hM_1 (by decide)) (gno (gne_c hM_0 hM_2 (by decide)) (gno (gne_c hM_0 hM_3 (by decide)) (gno (gne_c hM_0 hM_4 (by decide)) gno0))))) (by decide)) hc7) hU13.1 (by decide)) (hU13.n (gne_c hc7 (hF9 _ _ _ hM_0 (gno (gne_c hM_0 hM_1 (by decide)) (gno (gne_c hM_0 hM_2 (by decide)) (gno (gne_c hM_0 hM_3 (by decide)) (gno (gne_c hM_0 hM_4 (by decide)) gno0))))) (by decide)) hc7))
    have hH18 := (hU15.n (gne_c (hU13.n (gne_c hc8 (hF9 _ _ _ hM_0 (gno (gne_c hM_0 hM_1 (by decide)) (gno (gne_c hM_0 hM_2 (by decide)) (gno (gne_c hM_0 hM_3 (by decide)) (gno (gne_c hM_0 hM_4 (by decide)) gno0))))) (by decide)) hc8) hU13.1 (by decide)) (hU13.n (gne_c hc8 (hF9 _ _ _ hM_0 (gno (gne_c hM_0 hM_1 (by decide)) (gno (gne_c hM_0 hM_2 (by decide)) (gno (gne_c hM_0 hM_3 (by decide)) (gno (gne_c hM_0 hM_4 (by decide)) gno0))))) (by decide)) hc8))
    refine g_aload_n hC dJ34_remove_73 1 rfl gRef_r 74 rfl ?_
    refine g_dup hC dJ34_remove_74 rfl 75 rfl ?_
    refine g_get (v := .int mc) hC cI19 hU15.1 3 (Nat.le_of_ble_eq_true rfl) q1946 rfl dJ34_remove_75 78 rfl ?_
    refine g_iconst hC dJ34_remove_78 ki_1 79 rfl ?_
    refine g_iadd hC dJ34_remove_79 80 rfl ?_
    refine g_put hC cI19 hU15.1 3 (Nat.le_of_ble_eq_true rfl) q1946 rfl rfl rfl (Nat.le_of_ble_eq_true rfl) dJ34_remove_80 (fs' := [.null, .ref y, .int (nI i), .int (mc + 1), .ref b]) rfl 83 rfl (fun M19 hU20 => ?_)
    exact g_vret hC (fun k9 hk9 => ⟨(hU20.n (gne_c hH16 hU15.1 (by decide)) hH16), (hU20.n (gne_c hH17 hU15.1 (by decide)) hH17), (hU20.n (gne_c hH18 hU15.1 (by decide)) hH18), hU20.1, ((((gFr.refl.trans (hF9.mono (by intro b t hb; simp at hb ⊢; first | done | (rcases hb with rfl | rfl | rfl | rfl <;> simp) | (simp [hb]; done)))).up hU13 (hF9 _ _ _ hM_0 (gno (gne_c hM_0 hM_1 (by decide)) (gno (gne_c hM_0 hM_2 (by decide)) (gno (gne_c hM_0 hM_3 (by decide)) (gno (gne_c hM_0 hM_4 (by decide)) gno0))))) (by simp)).up hU15 hU13.1 (by simp)).up hU20 hU15.1 (by simp)), (by first | exact Nat.le_zero.mp hk9 | omega)⟩) dJ34_remove_83 (Nat.le_of_ble_eq_true rfl) (Nat.le_of_ble_eq_true rfl)
  · exact absurd (Option.some.inj c_11) hyx
theorem lls.cut {M M' : gM} {t : Nat × Nat} {A B : List dsE} {e : dsE} (h : lls M t (A ++ e :: B)) (hA : llS M' t none A (llN B none)) (hB : llS M' t (llZ none A) B none) : lls M' t (A ++ B) := by
  refine ⟨(llS.app A none).mpr ⟨hA, hB⟩, ?_⟩
  have h2 := h.2
  rw [List.map_append, List.map_cons] at h2
  rw [List.map_append]
  exact h2.sublist (List.Sublist.append (List.Sublist.refl _) (List.sublist_cons_self _ _))
theorem lls.ne {M : gM} {t : Nat × Nat} {A B : List dsE} {e : dsE} (h : lls M t (A ++ e :: B)) : (∀ d ∈ A, d.1 ≠ e.1) ∧ (∀ d ∈ B, d.1 ≠ e.1) ∧ (∀ d ∈ A, ∀ c ∈ B, d.1 ≠ c.1) := by
  have h2 := h.2
  rw [List.map_append, List.map_cons, List.nodup_append, List.nodup_cons] at h2
  obtain ⟨-, ⟨h3, -⟩, h4⟩ := h2
  refine ⟨fun d hd q => h4 d.1 (List.mem_map.mpr ⟨d, hd, rfl⟩) e.1 (by simp) q, fun d hd q => h3 (List.mem_map.mpr ⟨d, hd, q⟩), fun d hd c hc q => h4 d.1 (List.mem_map.mpr ⟨d, hd, rfl⟩) c.1 ?_ q⟩
  exact List.mem_cons_of_mem _ (List.mem_map.mpr ⟨c, hc, rfl⟩)
theorem llZ_snoc {A : List dsE} {e : dsE} {B : List dsE} (p : Option Nat) : llZ p (A ++ e :: B) = llZ (some e.1) B := by
  induction A generalizing p with
  | nil => rfl
  | cons a A ih => exact ih _
theorem llN_app {A B : List dsE} {q : Option Nat} : llN (A ++ B) q = llN A (llN B q) := by cases A <;> rfl
theorem llZ_c {A B : List dsE} {p : Option Nat} : llZ p (A ++ B) = llZ (llZ p A) B := by
  induction A generalizing p with
  | nil => rfl
  | cons a A ih => exact ih
set_option maxHeartbeats 4000000 in
theorem met_LLi_remove (l : Launch) (G : gG) (M : gM) (b : Nat) (t0 : Nat × Nat) (t1 : Nat × Nat) (mc : Int32) (A : List dsE) (e : dsE) (B : List dsE) (i9 : Nat) (hD : (A ++ e :: B).length ≤ 8) (hM_0 : M i9 = some ((9, 0), .inr (19, [.ref e.1, va_rf (llN B none), .int (nI (A.length + 1)), .int mc, .ref b]))) (hM_1 : M b = some (t0, .inr (17, [.int mc, .int (nI ((A ++ e :: B).length)), va_rf (llN (A ++ e :: B) none), va_rf (llZ none (A ++ e :: B))]))) (hP_0 : lls M t1 (A ++ e :: B)) : Met l yJ34_remove (ws_ yJ34_remove cJ34_remove 2 none) ({ frames := 2, cells := 0, slots := 0, locals := 70 }) (gPc G [.ref i9] M) (gQv G (fun M9 k9 => M9 b = some (t0, .inr (17, [.int (mc + 1), .int (nI ((A ++ B).length)), va_rf (llN (A ++ B) none), va_rf (llZ none (A ++ B))])) ∧ M9 i9 = some ((9, 0), .inr (19, [.null, va_rf (llN B none), .int (nI A.length), .int (mc + 1), .ref b])) ∧ lls M9 t1 (A ++ B) ∧ gFr (gT (fun t => tgE t0.1 t0.2 t ∨ tgE t1.1 t1.2 t ∨ tgE 9 0 t)) M M9 ∧ k9 = 0)) 0 0 (gA G) := by
  rcases ll_cc A with rfl | ⟨A, z, rfl⟩
  · rcases B with _ | ⟨y, B⟩
    · have hs := (llS.app _ none).mp hP_0.1
      obtain ⟨n1, n2, n3⟩ := hP_0.ne
      have hx : M e.1 = some (t1, .inr (18, [.ref e.2.1, .null, .null])) := by have h := hs.2.1; exact h
      have hlen : (([] : List dsE) ++ e :: ([] : List dsE)).length = (([] : List dsE) ++ ([] : List dsE)).length + 1 := by simp only [List.length_append, List.length_cons, List.length_nil] <;> omega
      rw [hlen] at hD hM_1
      refine gMono_v (met_LLi_rem_00 l G M b t0 t1 mc (([] : List dsE) ++ ([] : List dsE)).length (some e.1) (llZ none (([] : List dsE) ++ e :: ([] : List dsE))) e.1 e.2.1 i9 (([] : List dsE)).length (by omega) (by simp only [List.length_append, List.length_cons, List.length_nil] at hD ⊢; omega) hM_0 hM_1 hx) ?_
      intro M9 k9 ⟨h1, h4, h5, h6⟩
      have hab : ∀ x y9, M x = some y9 → x ≠ b → x ≠ e.1 → x ≠ i9 → M9 x = some y9 := fun x y9 hx q0 q1 q2 => h5 x y9.1 y9.2 hx (gno q0 (gno q1 (gno q2 gno0)))
      refine ⟨?_, h4, hP_0.cut ?_ ?_, ?_, h6⟩
      · exact h1
      · exact trivial
      · exact trivial
      · intro x t y9 hx' hn
        refine hab x _ hx' ?_ ?_ ?_
        · rintro rfl; rw [hM_1] at hx'; cases hx'; exact hn (Or.inl ⟨rfl, rfl⟩)
        · rintro rfl; rw [hx] at hx'; cases hx'; exact hn (Or.inr (Or.inl ⟨rfl, rfl⟩))
        · rintro rfl; rw [hM_0] at hx'; cases hx'; exact hn (Or.inr (Or.inr ⟨rfl, rfl⟩))
    · have hs := (llS.app _ none).mp hP_0.1
      obtain ⟨n1, n2, n3⟩ := hP_0.ne
      have hy : M y.1 = some (t1, .inr (18, [.ref y.2.1, va_rf (llN B none), .ref e.1])) := hs.2.2.1
      have hyB : ∀ d ∈ B, d.1 ≠ y.1 := by have h2 := hP_0.2; rw [List.map_append, List.nodup_append, List.map_cons, List.map_cons, List.nodup_cons, List.nodup_cons] at h2; exact fun d hd q => h2.2.1.2.1 (List.mem_map.mpr ⟨d, hd, q⟩)
      have hx : M e.1 = some (t1, .inr (18, [.ref e.2.1, .ref y.1, .null])) := by have h := hs.2.1; exact h
      have hlen : (([] : List dsE) ++ e :: (y :: B)).length = (([] : List dsE) ++ (y :: B)).length + 1 := by simp only [List.length_append, List.length_cons, List.length_nil] <;> omega
      rw [hlen] at hD hM_1
      refine gMono_v (met_LLi_rem_01 l G M b t0 t1 mc (([] : List dsE) ++ (y :: B)).length (some e.1) (llZ none (([] : List dsE) ++ e :: (y :: B))) e.1 e.2.1 y.1 y.2.1 (llN B none) i9 (([] : List dsE)).length (by omega) (n2 y (by simp)) (by simp only [List.length_append, List.length_cons, List.length_nil] at hD ⊢; omega) hM_0 hM_1 hx hy) ?_
      intro M9 k9 ⟨h1, h3, h4, h5, h6⟩
      have hab : ∀ x y9, M x = some y9 → x ≠ b → x ≠ e.1 → x ≠ y.1 → x ≠ i9 → M9 x = some y9 := fun x y9 hx q0 q1 q2 q3 => h5 x y9.1 y9.2 hx (gno q0 (gno q1 (gno q2 (gno q3 gno0))))
      refine ⟨?_, h4, hP_0.cut ?_ ?_, ?_, h6⟩
      · exact h1
      · exact trivial
      · refine ⟨h3, llS.of B _ hs.2.2.2 (fun d hd x hx => ?_)⟩
        obtain ⟨w, hc⟩ := llS.mem _ _ hs.2.2.2 hd
        exact hab d.1 _ hx (gne_c hc hM_1 (by decide)) (n2 d (by simp [hd])) (hyB d hd) (gne_c hc hM_0 (by decide))
      · intro x t y9 hx' hn
        refine hab x _ hx' ?_ ?_ ?_ ?_
        · rintro rfl; rw [hM_1] at hx'; cases hx'; exact hn (Or.inl ⟨rfl, rfl⟩)
        · rintro rfl; rw [hx] at hx'; cases hx'; exact hn (Or.inr (Or.inl ⟨rfl, rfl⟩))
        · rintro rfl; rw [hy] at hx'; cases hx'; exact hn (Or.inr (Or.inl ⟨rfl, rfl⟩))
        · rintro rfl; rw [hM_0] at hx'; cases hx'; exact hn (Or.inr (Or.inr ⟨rfl, rfl⟩))
  · rcases B with _ | ⟨y, B⟩
    · have hs := (llS.app _ none).mp hP_0.1
      obtain ⟨n1, n2, n3⟩ := hP_0.ne
      have hsA := (llS.app A none).mp hs.1
      have hz : M z.1 = some (t1, .inr (18, [.ref z.2.1, .ref e.1, va_rf (llZ none A)])) := hsA.2.1
      have hzA : ∀ d ∈ A, d.1 ≠ z.1 := by have h2 := hP_0.2; rw [List.map_append, List.map_append, List.nodup_append, List.nodup_append] at h2; exact fun d hd q => h2.1.2.2 d.1 (List.mem_map.mpr ⟨d, hd, rfl⟩) z.1 (by simp) q
      have hx : M e.1 = some (t1, .inr (18, [.ref e.2.1, .null, .ref z.1])) := by have h := hs.2.1; rw [llZ_app] at h; exact h
      have hlen : ((A ++ [z]) ++ e :: ([] : List dsE)).length = ((A ++ [z]) ++ ([] : List dsE)).length + 1 := by simp only [List.length_append, List.length_cons, List.length_nil] <;> omega
      rw [hlen] at hD hM_1
      refine gMono_v (met_LLi_rem_10 l G M b t0 t1 mc ((A ++ [z]) ++ ([] : List dsE)).length (llN (A ++ [z] ++ e :: ([] : List dsE)) none) (llZ none ((A ++ [z]) ++ e :: ([] : List dsE))) e.1 e.2.1 z.1 z.2.1 (llZ none A) i9 ((A ++ [z])).length (by omega) (n1 z (by simp)) (by simp only [List.length_append, List.length_cons, List.length_nil] at hD ⊢; omega) hM_0 hM_1 hx hz) ?_
      intro M9 k9 ⟨h1, h2, h4, h5, h6⟩
      have hab : ∀ x y9, M x = some y9 → x ≠ b → x ≠ e.1 → x ≠ z.1 → x ≠ i9 → M9 x = some y9 := fun x y9 hx q0 q1 q2 q3 => h5 x y9.1 y9.2 hx (gno q0 (gno q1 (gno q2 (gno q3 gno0))))
      refine ⟨?_, h4, hP_0.cut ?_ ?_, ?_, h6⟩
      · rw [h1, List.append_nil, llZ_app]; have e1 : llN (A ++ [z] ++ [e]) none = llN (A ++ [z]) none := (by cases A <;> rfl); rw [e1]; rfl
      · refine (llS.app A none).mpr ⟨llS.of A none hsA.1 (fun d hd x hx => ?_), ?_⟩
        · obtain ⟨w, hc⟩ := llS.mem _ _ hsA.1 hd
          exact hab d.1 _ hx (gne_c hc hM_1 (by decide)) (n1 d (by simp [hd])) (hzA d hd) (gne_c hc hM_0 (by decide))
        · exact ⟨h2, trivial⟩
      · exact trivial
      · intro x t y9 hx' hn
        refine hab x _ hx' ?_ ?_ ?_ ?_
        · rintro rfl; rw [hM_1] at hx'; cases hx'; exact hn (Or.inl ⟨rfl, rfl⟩)
        · rintro rfl; rw [hx] at hx'; cases hx'; exact hn (Or.inr (Or.inl ⟨rfl, rfl⟩))
        · rintro rfl; rw [hz] at hx'; cases hx'; exact hn (Or.inr (Or.inl ⟨rfl, rfl⟩))
        · rintro rfl; rw [hM_0] at hx'; cases hx'; exact hn (Or.inr (Or.inr ⟨rfl, rfl⟩))
    · have hs := (llS.app _ none).mp hP_0.1
      obtain ⟨n1, n2, n3⟩ := hP_0.ne
      have hsA := (llS.app A none).mp hs.1
      have hz : M z.1 = some (t1, .inr (18, [.ref z.2.1, .ref e.1, va_rf (llZ none A)])) := hsA.2.1
      have hzA : ∀ d ∈ A, d.1 ≠ z.1 := by have h2 := hP_0.2; rw [List.map_append, List.map_append, List.nodup_append, List.nodup_append] at h2; exact fun d hd q => h2.1.2.2 d.1 (List.mem_map.mpr ⟨d, hd, rfl⟩) z.1 (by simp) q
      have hy : M y.1 = some (t1, .inr (18, [.ref y.2.1, va_rf (llN B none), .ref e.1])) := hs.2.2.1
      have hyB : ∀ d ∈ B, d.1 ≠ y.1 := by have h2 := hP_0.2; rw [List.map_append, List.nodup_append, List.map_cons, List.map_cons, List.nodup_cons, List.nodup_cons] at h2; exact fun d hd q => h2.2.1.2.1 (List.mem_map.mpr ⟨d, hd, q⟩)
      have hx : M e.1 = some (t1, .inr (18, [.ref e.2.1, .ref y.1, .ref z.1])) := by have h := hs.2.1; rw [llZ_app] at h; exact h
      have hlen : ((A ++ [z]) ++ e :: (y :: B)).length = ((A ++ [z]) ++ (y :: B)).length + 1 := by simp only [List.length_append, List.length_cons, List.length_nil] <;> omega
      rw [hlen] at hD hM_1
      refine gMono_v (met_LLi_rem_11 l G M b t0 t1 mc ((A ++ [z]) ++ (y :: B)).length (llN (A ++ [z] ++ e :: (y :: B)) none) (llZ none ((A ++ [z]) ++ e :: (y :: B))) e.1 e.2.1 z.1 z.2.1 (llZ none A) y.1 y.2.1 (llN B none) i9 ((A ++ [z])).length (by omega) (n1 z (by simp)) (n2 y (by simp)) (n3 z (by simp) y (by simp)) (by simp only [List.length_append, List.length_cons, List.length_nil] at hD ⊢; omega) hM_0 hM_1 hx hz hy) ?_
      intro M9 k9 ⟨h1, h2, h3, h4, h5, h6⟩
      have hab : ∀ x y9, M x = some y9 → x ≠ b → x ≠ e.1 → x ≠ z.1 → x ≠ y.1 → x ≠ i9 → M9 x = some y9 := fun x y9 hx q0 q1 q2 q3 q4 => h5 x y9.1 y9.2 hx (gno q0 (gno q1 (gno q2 (gno q3 (gno q4 gno0)))))
      refine ⟨?_, h4, hP_0.cut ?_ ?_, ?_, h6⟩
      · rw [h1, llZ_snoc, llZ_c]; have e1 : llN (A ++ [z] ++ e :: y :: B) none = llN (A ++ [z] ++ y :: B) none := (by cases A <;> rfl); rw [e1]; rfl
      · refine (llS.app A none).mpr ⟨llS.of A none hsA.1 (fun d hd x hx => ?_), ?_⟩
        · obtain ⟨w, hc⟩ := llS.mem _ _ hsA.1 hd
          exact hab d.1 _ hx (gne_c hc hM_1 (by decide)) (n1 d (by simp [hd])) (hzA d hd) (n3 d (by simp [hd]) y (by simp)) (gne_c hc hM_0 (by decide))
        · exact ⟨h2, trivial⟩
      · refine ⟨by rw [llZ_app]; exact h3, llS.of B _ hs.2.2.2 (fun d hd x hx => ?_)⟩
        obtain ⟨w, hc⟩ := llS.mem _ _ hs.2.2.2 hd
        exact hab d.1 _ hx (gne_c hc hM_1 (by decide)) (n2 d (by simp [hd])) (Ne.symm (n3 z (by simp) d (by simp [hd]))) (hyB d hd) (gne_c hc hM_0 (by decide))
      · intro x t y9 hx' hn
        refine hab x _ hx' ?_ ?_ ?_ ?_ ?_
        · rintro rfl; rw [hM_1] at hx'; cases hx'; exact hn (Or.inl ⟨rfl, rfl⟩)
        · rintro rfl; rw [hx] at hx'; cases hx'; exact hn (Or.inr (Or.inl ⟨rfl, rfl⟩))
        · rintro rfl; rw [hz] at hx'; cases hx'; exact hn (Or.inr (Or.inl ⟨rfl, rfl⟩))
        · rintro rfl; rw [hy] at hx'; cases hx'; exact hn (Or.inr (Or.inl ⟨rfl, rfl⟩))
        · rintro rfl; rw [hM_0] at hx'; cases hx'; exact hn (Or.inr (Or.inr ⟨rfl, rfl⟩))
set_option maxHeartbeats 4000000 in
theorem met_Ds_init (l : Launch) (G : gG) (M : gM) (h : Nat) (t : Nat × Nat) (nd : Int32) (tm : Int32)  (hM_0 : M h = some (t, .inr (10, [.int 0, .int 0]))) : Met l yX11_init (ws_ yX11_init cX11_init 3 none) ({ frames := 1, cells := 0, slots := 0, locals := 12 }) (gPc G [.ref h, .int nd, .int tm] M) (gQv G (fun M9 k9 => M9 h = some (t, .inr (10, [.int nd, .int tm])) ∧ gFr (gL [h]) M M9 ∧ k9 = 0)) 0 0 (gA G) := by
  refine gMet [(0, .ref h), (1, .int nd), (2, .int tm)] (by decide) (Nat.le_of_ble_eq_true rfl) rfl ?_
  intro p e s m below meth c hC
  refine g_aload_n hC dX11_init_0 0 rfl gRef_r 1 rfl ?_
  refine g_objInit hC q1763 q176 q177 dX11_init_1 (Nat.le_of_ble_eq_true rfl) (Nat.le_of_ble_eq_true rfl) 4 rfl ?_
  refine g_aload_n hC dX11_init_4 0 rfl gRef_r 5 rfl ?_
  refine g_iload_n hC dX11_init_5 1 rfl 6 rfl ?_
  refine g_putF hC cI10 hM_0 0 (Nat.le_of_ble_eq_true rfl) q1764 rfl rfl rfl rfl (Nat.le_of_ble_eq_true rfl) dX11_init_6 (fs' := [.int nd, .int 0]) rfl 9 rfl (fun M1 hU2 => ?_)
  refine g_aload_n hC dX11_init_9 0 rfl gRef_r 10 rfl ?_
  refine g_iload_n hC dX11_init_10 2 rfl 11 rfl ?_
  refine g_putF hC cI10 hU2.1 1 (Nat.le_of_ble_eq_true rfl) q1766 rfl rfl rfl rfl (Nat.le_of_ble_eq_true rfl) dX11_init_11 (fs' := [.int nd, .int tm]) rfl 14 rfl (fun M3 hU4 => ?_)
  exact g_vret hC (fun k9 hk9 => ⟨hU4.1, ((gFr.refl.up hU2 hM_0 (by simp)).up hU4 hU2.1 (by simp)), (by first | exact Nat.le_zero.mp hk9 | omega)⟩) dX11_init_14 (Nat.le_of_ble_eq_true rfl) (Nat.le_of_ble_eq_true rfl)
