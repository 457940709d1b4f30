/-! the bus: settle, bitsUntilSent; how a node of a packed bus is read and changed -/
set_option maxRecDepth 100000
set_option maxHeartbeats 4000000 in
theorem met_B_settle (l : Launch) (G : gG) (M : gM) (ta : Nat) (of : Nat) (f : Nat → Int32) (q : Nat) (hta : 2 ≤ ta ∧ ta < 9) (hq : q < 800000)  (hP_0 : busR M G ta of f q) : Met l yX1_settle (ws_ yX1_settle cX1_settle 2 (some .int)) ({ frames := 12, cells := 9020, slots := 61000, locals := 300 }) (gPc G [.ref of] M) (gQi G (fun r9 M9 k9 => r9 = (if stT (stlT 1000 0 f).1 4 = true then nI (stlT 1000 0 f).2 else -5) ∧ busR M9 G ta of ((stlT 1000 0 f).1) (q + 1000) ∧ gFr (gT (fun t => t.1 = ta ∨ t.1 = 9)) M M9 ∧ k9 ≤ 9004)) 9020 61000 (gA G) := by
  refine gMet [(0, .ref of)] (by decide) (Nat.le_of_ble_eq_true rfl) rfl ?_
  intro p e s m below meth c hC
  refine g_iconst hC dX1_settle_0 ki_0 1 rfl ?_
  have hB1 : busR M G ta of (T_bits f 0) (q + 0) := hP_0
  refine g_istore_n hC dX1_settle_1 rfl (Nat.le_of_ble_eq_true rfl) [(1, .int 0), (0, .ref of)] rfl 2 rfl ?_
  have loop2 : ∀ (n9 : Nat) (i : Nat) (cc : Nat) (ML : gM), (hi : i ≤ 1000) → (hr : stlT (1000 - i) i (T_bits f i) = stlT 1000 0 f) → (hcc : cc + crdF (T_bits f i) ≤ 9 * i + crdF f) → (hc4 : crdF f ≤ 4) → 1000 - i < n9 → (busR ML G ta of (T_bits f i) (q + i)) → gFr (gT (fun t => t.1 = ta ∨ t.1 = 9)) M ML → gJ p l e ({ frames := 12, cells := 9020, slots := 61000, locals := 300 } : Room) s m ([.ref of] : List Value).toArray below meth c G 2 (MQ below (gQi G (fun r9 M9 k9 => r9 = (if stT (stlT 1000 0 f).1 4 = true then nI (stlT 1000 0 f).2 else -5) ∧ busR M9 G ta of ((stlT 1000 0 f).1) (q + 1000) ∧ gFr (gT (fun t => t.1 = ta ∨ t.1 = 9)) M M9 ∧ k9 ≤ 9004)) ([.ref of] : List Value).toArray s 9020 61000 (gA G)) cc (61 * i) ML 2 [(0, .ref of), (1, .int (nI i))] [] := by
    intro n9
    induction n9 with
    | zero => intro i cc ML hi hr hcc hc4 hmu; exact absurd hmu (Nat.not_lt_zero _)
    | succ n9 ih =>
      intro i cc ML hi hr hcc hc4 hmu  hLp_0 hLF
      refine g_iload_n hC dX1_settle_2 1 rfl 3 rfl ?_
      refine g_sipush hC dX1_settle_3 ks_1000 6 rfl ?_
      refine g_icmp_ge hC dX1_settle_6 28 rfl 9 rfl (fun c_2 => ?_) (fun c_2 => ?_)
      · replace c_2 : 1000 ≤ i := nn_le (by omega) (by omega) c_2
        have hq9 : stlT 1000 0 f = (T_bits f i, i) := (by rw [← hr, show 1000 - i = 0 by omega]; rfl)
        refine g_aload_n hC dX1_settle_28 0 rfl gRef_r 29 rfl ?_
        refine g_calliP (g_V (As := []) (rest := []) hC mvX1_isSettled q2290 (busR.cls hC.K hLp_0) (met_B_isSettled l G ML ta of (T_bits f i) (q + i) hta hLp_0) ⟨rfl, rfl⟩ ⟨(Nat.le_of_ble_eq_true rfl), (Nat.le_of_ble_eq_true rfl)⟩ rfl (Nat.le_of_ble_eq_true rfl) dX1_settle_29 rfl ⟨(by first | omega | (dsimp only; omega)), (by first | omega | (dsimp only; omega))⟩) 32 rfl (61 * i) (by first | omega | (dsimp only; omega)) ?_
        refine g_if_eq hC dX1_settle_32 41 rfl 35 rfl (fun c_3 => ?_) (fun c_3 => ?_)
        · replace c_3 : stT (T_bits f i) 4 = false := bB_e0 c_3
          refine g_bipush hC dX1_settle_41 kb_m5 43 rfl ?_
          exact g_iret (v := -5) hC (fun k9 hk9 => ⟨(by rw [hq9]; simp only [c_3, if_true, if_false, Bool.false_eq_true]; first | done | rfl | (rw [show i = 1000 by omega]; rfl)), (by rw [hq9]; exact busR.mono hLp_0 (by omega)), hLF, (by first | exact Nat.le_zero.mp hk9 | omega)⟩) dX1_settle_43 (by first | omega | (dsimp only; omega)) (by first | omega | (dsimp only; omega))
        · replace c_3 : stT (T_bits f i) 4 = true := bB_n0 c_3
          refine g_sipush hC dX1_settle_35 ks_1000 38 rfl ?_
          refine g_goto hC dX1_settle_38 43 rfl ?_
          exact g_iret (v := 1000) hC (fun k9 hk9 => ⟨(by rw [hq9]; simp only [c_3, if_true, if_false, Bool.false_eq_true]; first | done | rfl | (rw [show i = 1000 by omega]; rfl)), (by rw [hq9]; exact busR.mono hLp_0 (by omega)), hLF, (by first | exact Nat.le_zero.mp hk9 | omega)⟩) dX1_settle_43 (by first | omega | (dsimp only; omega)) (by first | omega | (dsimp only; omega))
      · replace c_2 : i < 1000 := nn_nle (by omega) (by omega) c_2
        refine g_aload_n hC dX1_settle_9 0 rfl gRef_r 10 rfl ?_
        refine g_calliP (g_V (As := []) (rest := []) hC mvX1_isSettled q2290 (busR.cls hC.K hLp_0) (met_B_isSettled l G ML ta of (T_bits f i) (q + i) hta hLp_0) ⟨rfl, rfl⟩ ⟨(Nat.le_of_ble_eq_true rfl), (Nat.le_of_ble_eq_true rfl)⟩ rfl (Nat.le_of_ble_eq_true rfl) dX1_settle_10 rfl ⟨(by first | omega | (dsimp only; omega)), (by first | omega | (dsimp only; omega))⟩) 13 rfl (61 * i) (by first | omega | (dsimp only; omega)) ?_
        refine g_if_eq hC dX1_settle_13 18 rfl 16 rfl (fun c_4 => ?_) (fun c_4 => ?_)
        · replace c_4 : stT (T_bits f i) 4 = false := bB_e0 c_4
          refine g_aload_n hC dX1_settle_18 0 rfl gRef_r 19 rfl ?_
          refine g_callvA (g_V (As := []) (rest := []) hC mvX1_step q1814 (busR.cls hC.K hLp_0) (met_B_step l G ML ta of (T_bits f i) (q + i) hta (by omega) hLp_0) ⟨rfl, rfl⟩ ⟨(Nat.le_of_ble_eq_true rfl), (Nat.le_of_ble_eq_true rfl)⟩ rfl (Nat.le_of_ble_eq_true rfl) dX1_settle_19 rfl ⟨(by first | omega | (dsimp only; omega)), (by first | omega | (dsimp only; omega))⟩) 22 rfl (fun M5 k6 hp7 => ?_)
          obtain ⟨hpd9, hF10, hq11, hk12⟩ := hp7
          have hB13 : busR M5 G ta of (T_bits f (i + 1)) (q + (i + 1)) := hpd9
          refine g_iinc hC dX1_settle_22 1 rfl (v := nI (i + 1)) (by rw [ki_1]; exact nI_a (a := i) (b := 1) (c := (i + 1)) (by omega)) (Nat.le_of_ble_eq_true rfl) [(1, .int (nI (i + 1))), (0, .ref of)] rfl 25 rfl ?_
          refine g_goto hC dX1_settle_25 2 rfl ?_
          refine gJ.sub (M' := M5) [1, 0] rfl ?_
          refine gJ.widen (k := cc + k6) (n := 61 * (i + 1)) (by first | omega | (dsimp only; omega)) (by first | omega | (dsimp only; omega)) ?_
          exact ih (i + 1) (cc + k6) M5 (by omega) (by rw [← hr, show 1000 - i = (1000 - (i + 1)) + 1 by omega]; simp only [stlT, c_4, if_false, Bool.false_eq_true]; rfl) (show cc + k6 + crdF (T_bit (T_bits f i)) ≤ 9 * (i + 1) + crdF f by omega) hc4 (by omega) hB13 (hLF.trans (gFr.refl.trans (hF10.mono (fun b t h => by obtain ⟨u9, v9⟩ := t; revert h; (try simp only [ndT, tgE, gT, tgR, ndT9, ndW, tg0, Prod.mk.injEq, true_and, and_true, cpyT]); first | done | omega | (simp; done) | (intro h; simp_all; done)))))
        · replace c_4 : stT (T_bits f i) 4 = true := bB_n0 c_4
          have hq9 : stlT 1000 0 f = (T_bits f i, i) := (by rw [← hr, show 1000 - i = (1000 - (i + 1)) + 1 by omega]; simp only [stlT, c_4, if_true])
          refine g_iload_n hC dX1_settle_16 1 rfl 17 rfl ?_
          exact g_iret (v := nI i) hC (fun k9 hk9 => ⟨(by rw [hq9]; simp only [c_4, if_true, if_false, Bool.false_eq_true]; first | done | rfl | (rw [show i = 1000 by omega]; rfl)), (by rw [hq9]; exact busR.mono hLp_0 (by omega)), hLF, (by first | exact Nat.le_zero.mp hk9 | omega)⟩) dX1_settle_17 (by first | omega | (dsimp only; omega)) (by first | omega | (dsimp only; omega))
  refine gJ.sub (M' := M) [1, 0] rfl ?_
  refine gJ.widen (k := 0) (n := 61 * 0) (by first | omega | (dsimp only; omega)) (by first | omega | (dsimp only; omega)) ?_
  exact loop2 _ 0 0 M (by omega) rfl (by show 0 + crdF f ≤ 9 * 0 + crdF f; omega) crdF_le (Nat.lt_succ_self _) hB1 gFr.refl
theorem busR.nd {M : gM} {G : gG} {ta of q k : Nat} {f : Nat → Int32} (h : busR M G ta of f q) (hta : 2 ≤ ta ∧ ta < 9) (hk : k < 4) : ∃ (bn bd bh nd tn : Nat) (pl ol rv : Int32) (A : Nat → Option Nat) (x : NS), M of = some ((ta, 100), .inr (1, [.ref bn, .ref bd, .ref bh, .int (nI tn), .int pl, .int ol, .int rv])) ∧ M bn = some ((ta, 101), .inl (gcs G 4, 4, .inr (.inr (.inr (.inr A))))) ∧ A k = some nd ∧ isNd M G ta k of nd x ∧ relN f k q x ∧ (f 1024 = nI tn ∧ tn ≤ q) ∧ (f 1025 = pl ∧ f 1026 = ol ∧ f 1027 = rv) ∧ (∃ p, 8 ≤ p ∧ p ≤ 128 ∧ pl = nI p) ∧ ∀ (M' : gM) (f' : Nat → Int32) (q' : Nat) (x' : NS), q ≤ q' → gFr (gT (ndT9 ta k)) M M' → isNd M' G ta k of nd x' → relN f' k q' x' → (∀ c, (c < 256 * k ∨ 256 * k + 256 ≤ c) → f' c = f c) → busR M' G ta of f' q' := by
  obtain ⟨x0, x1, x2, x3, D, hs, tn, pl, ol, rv, ⟨bn, bd, bh, n0, n1, n2, n3, mc, b0, b1, b2, b3, l1, l2, z0, z1, z2, z3⟩, hR⟩ := h
  obtain ⟨r0, r1, r2, r3⟩ := hR.1
  rcases (show k = 0 ∨ k = 1 ∨ k = 2 ∨ k = 3 by omega) with rfl | rfl | rfl | rfl
  · refine ⟨bn, bd, bh, n0, tn, pl, ol, rv, _, x0, b0, b1, rfl, z0, r0, hR.2.1, hR.2.2.1, hR.2.2.2.1, fun M' f' q' x' hq hF hN hR' hc => ⟨x', x1, x2, x3, D, hs, tn, pl, ol, rv, ⟨bn, bd, bh, n0, n1, n2, n3, mc, hF _ _ _ b0 (by simp only [gT, ndT9]; omega), hF _ _ _ b1 (by simp only [gT, ndT9]; omega), hF _ _ _ b2 (by simp only [gT, ndT9]; omega), hF _ _ _ b3 (by simp only [gT, ndT9]; omega), l1.fr (hF.mono (by intro b t q9; obtain ⟨u9, v9⟩ := t; simp only [gT, tgE, tg0, ndT, ndT9] at q9 ⊢; omega)), l2.fr (hF.mono (by intro b t q9; obtain ⟨u9, v9⟩ := t; simp only [gT, tgE, tg0, ndT, ndT9] at q9 ⊢; omega)), hN, z1.fr (hF.mono (by intro b t q9; obtain ⟨u9, v9⟩ := t; simp only [gT, tgE, tg0, ndT, ndT9] at q9 ⊢; omega)), z2.fr (hF.mono (by intro b t q9; obtain ⟨u9, v9⟩ := t; simp only [gT, tgE, tg0, ndT, ndT9] at q9 ⊢; omega)), z3.fr (hF.mono (by intro b t q9; obtain ⟨u9, v9⟩ := t; simp only [gT, tgE, tg0, ndT, ndT9] at q9 ⊢; omega))⟩, ⟨hR', (r1.mono hq).fr (fun c _ => hc _ (by omega)), (r2.mono hq).fr (fun c _ => hc _ (by omega)), (r3.mono hq).fr (fun c _ => hc _ (by omega))⟩, ?_, ?_, hR.2.2.2.1, hR.2.2.2.2.1.fr (fun c h1 _ => hc c (by omega)), fun i hi => ?_⟩⟩
    · rw [hc 1024 (by omega)]; exact ⟨hR.2.1.1, Nat.le_trans hR.2.1.2 hq⟩
    · rw [hc 1025 (by omega), hc 1026 (by omega), hc 1027 (by omega)]; exact hR.2.2.1
    · rw [hc (i + 1050) (by omega)]; exact hR.2.2.2.2.2 i hi
  · refine ⟨bn, bd, bh, n1, tn, pl, ol, rv, _, x1, b0, b1, rfl, z1, r1, hR.2.1, hR.2.2.1, hR.2.2.2.1, fun M' f' q' x' hq hF hN hR' hc => ⟨x0, x', x2, x3, D, hs, tn, pl, ol, rv, ⟨bn, bd, bh, n0, n1, n2, n3, mc, hF _ _ _ b0 (by simp only [gT, ndT9]; omega), hF _ _ _ b1 (by simp only [gT, ndT9]; omega), hF _ _ _ b2 (by simp only [gT, ndT9]; omega), hF _ _ _ b3 (by simp only [gT, ndT9]; omega), l1.fr (hF.mono (by intro b t q9; obtain ⟨u9, v9⟩ := t; simp only [gT, tgE, tg0, ndT, ndT9] at q9 ⊢; omega)), l2.fr (hF.mono (by intro b t q9; obtain ⟨u9, v9⟩ := t; simp only [gT, tgE, tg0, ndT, ndT9] at q9 ⊢; omega)), z0.fr (hF.mono (by intro b t q9; obtain ⟨u9, v9⟩ := t; simp only [gT, tgE, tg0, ndT, ndT9] at q9 ⊢; omega)), hN, z2.fr (hF.mono (by intro b t q9; obtain ⟨u9, v9⟩ := t; simp only [gT, tgE, tg0, ndT, ndT9] at q9 ⊢; omega)), z3.fr (hF.mono (by intro b t q9; obtain ⟨u9, v9⟩ := t; simp only [gT, tgE, tg0, ndT, ndT9] at q9 ⊢; omega))⟩, ⟨(r0.mono hq).fr (fun c _ => hc _ (by omega)), hR', (r2.mono hq).fr (fun c _ => hc _ (by omega)), (r3.mono hq).fr (fun c _ => hc _ (by omega))⟩, ?_, ?_, hR.2.2.2.1, hR.2.2.2.2.1.fr (fun c h1 _ => hc c (by omega)), fun i hi => ?_⟩⟩
    · rw [hc 1024 (by omega)]; exact ⟨hR.2.1.1, Nat.le_trans hR.2.1.2 hq⟩
    · rw [hc 1025 (by omega), hc 1026 (by omega), hc 1027 (by omega)]; exact hR.2.2.1
    · rw [hc (i + 1050) (by omega)]; exact hR.2.2.2.2.2 i hi
  · refine ⟨bn, bd, bh, n2, tn, pl, ol, rv, _, x2, b0, b1, rfl, z2, r2, hR.2.1, hR.2.2.1, hR.2.2.2.1, fun M' f' q' x' hq hF hN hR' hc => ⟨x0, x1, x', x3, D, hs, tn, pl, ol, rv, ⟨bn, bd, bh, n0, n1, n2, n3, mc, hF _ _ _ b0 (by simp only [gT, ndT9]; omega), hF _ _ _ b1 (by simp only [gT, ndT9]; omega), hF _ _ _ b2 (by simp only [gT, ndT9]; omega), hF _ _ _ b3 (by simp only [gT, ndT9]; omega), l1.fr (hF.mono (by intro b t q9; obtain ⟨u9, v9⟩ := t; simp only [gT, tgE, tg0, ndT, ndT9] at q9 ⊢; omega)), l2.fr (hF.mono (by intro b t q9; obtain ⟨u9, v9⟩ := t; simp only [gT, tgE, tg0, ndT, ndT9] at q9 ⊢; omega)), z0.fr (hF.mono (by intro b t q9; obtain ⟨u9, v9⟩ := t; simp only [gT, tgE, tg0, ndT, ndT9] at q9 ⊢; omega)), z1.fr (hF.mono (by intro b t q9; obtain ⟨u9, v9⟩ := t; simp only [gT, tgE, tg0, ndT, ndT9] at q9 ⊢; omega)), hN, z3.fr (hF.mono (by intro b t q9; obtain ⟨u9, v9⟩ := t; simp only [gT, tgE, tg0, ndT, ndT9] at q9 ⊢; omega))⟩, ⟨(r0.mono hq).fr (fun c _ => hc _ (by omega)), (r1.mono hq).fr (fun c _ => hc _ (by omega)), hR', (r3.mono hq).fr (fun c _ => hc _ (by omega))⟩, ?_, ?_, hR.2.2.2.1, hR.2.2.2.2.1.fr (fun c h1 _ => hc c (by omega)), fun i hi => ?_⟩⟩
    · rw [hc 1024 (by omega)]; exact ⟨hR.2.1.1, Nat.le_trans hR.2.1.2 hq⟩
    · rw [hc 1025 (by omega), hc 1026 (by omega), hc 1027 (by omega)]; exact hR.2.2.1
    · rw [hc (i + 1050) (by omega)]; exact hR.2.2.2.2.2 i hi
  · refine ⟨bn, bd, bh, n3, tn, pl, ol, rv, _, x3, b0, b1, rfl, z3, r3, hR.2.1, hR.2.2.1, hR.2.2.2.1, fun M' f' q' x' hq hF hN hR' hc => ⟨x0, x1, x2, x', D, hs, tn, pl, ol, rv, ⟨bn, bd, bh, n0, n1, n2, n3, mc, hF _ _ _ b0 (by simp only [gT, ndT9]; omega), hF _ _ _ b1 (by simp only [gT, ndT9]; omega), hF _ _ _ b2 (by simp only [gT, ndT9]; omega), hF _ _ _ b3 (by simp only [gT, ndT9]; omega), l1.fr (hF.mono (by intro b t q9; obtain ⟨u9, v9⟩ := t; simp only [gT, tgE, tg0, ndT, ndT9] at q9 ⊢; omega)), l2.fr (hF.mono (by intro b t q9; obtain ⟨u9, v9⟩ := t; simp only [gT, tgE, tg0, ndT, ndT9] at q9 ⊢; omega)), z0.fr (hF.mono (by intro b t q9; obtain ⟨u9, v9⟩ := t; simp only [gT, tgE, tg0, ndT, ndT9] at q9 ⊢; omega)), z1.fr (hF.mono (by intro b t q9; obtain ⟨u9, v9⟩ := t; simp only [gT, tgE, tg0, ndT, ndT9] at q9 ⊢; omega)), z2.fr (hF.mono (by intro b t q9; obtain ⟨u9, v9⟩ := t; simp only [gT, tgE, tg0, ndT, ndT9] at q9 ⊢; omega)), hN⟩, ⟨(r0.mono hq).fr (fun c _ => hc _ (by omega)), (r1.mono hq).fr (fun c _ => hc _ (by omega)), (r2.mono hq).fr (fun c _ => hc _ (by omega)), hR'⟩, ?_, ?_, hR.2.2.2.1, hR.2.2.2.2.1.fr (fun c h1 _ => hc c (by omega)), fun i hi => ?_⟩⟩
    · rw [hc 1024 (by omega)]; exact ⟨hR.2.1.1, Nat.le_trans hR.2.1.2 hq⟩
    · rw [hc 1025 (by omega), hc 1026 (by omega), hc 1027 (by omega)]; exact hR.2.2.1
    · rw [hc (i + 1050) (by omega)]; exact hR.2.2.2.2.2 i hi
theorem relN.g22 {f : Nat → Int32} {k q : Nat} {x : NS} (h : relN f k q x) : x.g 22 = f (256 * k + 14) := by
  obtain ⟨V, h⟩ := h
  exact h.1.1.2.2.2.2.2.1.2.symm
theorem busT_go {k j n : Nat} {x : Int32} {F : Nat → Int32} (h : F (256 * k + 14) = x) : busT k x (j + 1) n F = busT k x j (n + 1) (T_bit F) := by simp only [busT, h, if_true]
theorem busT_stop {k j n : Nat} {x : Int32} {F : Nat → Int32} (h : ¬ F (256 * k + 14) = x) : busT k x j n F = (F, n) := by
  cases j with
  | zero => rfl
  | succ j => simp only [busT, h, if_false]
theorem busR.sent {M : gM} {G : gG} {ta of q k : Nat} {f : Nat → Int32} (h : busR M G ta of f q) (hq : q < 1000000) (hk : k < 4) : T_bit f (256 * k + 14) = f (256 * k + 14) ∨ f (256 * k + 14) < T_bit f (256 * k + 14) := by
  obtain ⟨x0, x1, x2, x3, D, hs, tn, pl, ol, rv, -, hR⟩ := h
  obtain ⟨n, h1, h2, h3⟩ := sent_step hR hq k hk
  rcases h3 with h3 | h3
  · exact Or.inl (h3.trans h2.symm)
  · right
    rw [h2, h3]
    exact (nI_ltI (by omega) (by omega)).mpr (by omega)
theorem sent_eq {a b : Int32} (h : a = b ∨ b < a) (hc : a ≤ b) : a = b := by
  rcases h with h | h
  · exact h
  · exact absurd hc (Int32.not_le.mpr h)
set_option maxHeartbeats 4000000 in
theorem met_B_bus (l : Launch) (G : gG) (M : gM) (ta : Nat) (of : Nat) (f : Nat → Int32) (q : Nat) (k : Nat) (hta : 2 ≤ ta ∧ ta < 9) (hk : k < 4) (hq : q < 800000)  (hP_0 : busR M G ta of f q) : Met l yX1_bitsUntilSent (ws_ yX1_bitsUntilSent cX1_bitsUntilSent 4 (some .int)) ({ frames := 12, cells := 9020, slots := 61000, locals := 300 }) (gPc G [.ref of, .int (nI k)] M) (gQi G (fun r9 M9 k9 => r9 = (if (busT k (f (256 * k + 14)) 1000 0 f).1 (256 * k + 14) ≤ f (256 * k + 14) then -5 else nI (busT k (f (256 * k + 14)) 1000 0 f).2) ∧ gFr (gT (fun t => t.1 = ta ∨ t.1 = 9)) M M9 ∧ k9 ≤ 9004)) 9020 61000 (gA G) := by
  refine gMet [(0, .ref of), (1, .int (nI k))] (by decide) (Nat.le_of_ble_eq_true rfl) rfl ?_
  intro p e s m below meth c hC
  obtain ⟨bn_z1, bd_z1, bh_z1, nd_z1, tn_z1, pl_z1, ol_z1, rv_z1, A_z1, x_z1, b0_z1, b1_z1, hA_z1, hN_z1, hR_z1, ht_z1, hl_z1, hp_z1, hW_z1⟩ := busR.nd hP_0 hta (show k < 4 by omega)
  obtain ⟨sa_z2, wa_z2, rc_z2, an_z2, er_z2, hO_z2⟩ := isNd.cell hN_z1
  refine g_aload_n hC dX1_bitsUntilSent_0 0 rfl gRef_r 1 rfl ?_
  refine g_get (v := .ref bn_z1) hC cI1 b0_z1 0 (Nat.le_of_ble_eq_true rfl) q469 rfl dX1_bitsUntilSent_1 4 rfl ?_
  refine g_iload_n hC dX1_bitsUntilSent_4 1 rfl 5 rfl ?_
  refine g_aldq (r := some nd_z1) hC b1_z1 4 rfl (vp_in_nI (by omega) (by omega)) ((congrArg A_z1 (nI_clamp (by omega))).trans hA_z1) dX1_bitsUntilSent_5 6 rfl ?_
  refine g_getN (v := .int (x_z1.g 22)) hC cI2 hO_z2 22 (Nat.le_of_ble_eq_true rfl) q415 rfl dX1_bitsUntilSent_6 9 rfl ?_
  refine g_topi (y := f (256 * k + 14)) (relN.g22 hR_z1) ?_
  refine g_istore_n hC dX1_bitsUntilSent_9 rfl (Nat.le_of_ble_eq_true rfl) [(2, .int (f (256 * k + 14))), (0, .ref of), (1, .int (nI k))] rfl 10 rfl ?_
  refine g_iconst hC dX1_bitsUntilSent_10 ki_1 11 rfl ?_
  have hB3 : busR M G ta of (T_bits f 0) (q + 0) := hP_0
  refine g_istore_n hC dX1_bitsUntilSent_11 rfl (Nat.le_of_ble_eq_true rfl) [(3, .int 1), (2, .int (f (256 * k + 14))), (0, .ref of), (1, .int (nI k))] rfl 12 rfl ?_
  have loop12 : ∀ (n9 : Nat) (i : Nat) (j : Nat) (cc : Nat) (ML : gM), (hj : j = i + 1) → (hi : i ≤ 1000) → (hr : busT k (f (256 * k + 14)) (1000 - i) i (T_bits f i) = (busT k (f (256 * k + 14)) 1000 0 f)) → (hx : T_bits f i (256 * k + 14) = f (256 * k + 14)) → (hcc : cc + crdF (T_bits f i) ≤ 9 * i + crdF f) → (hc4 : crdF f ≤ 4) → 1000 - i < n9 → (busR ML G ta of (T_bits f i) (q + i)) → gFr (gT (fun t => t.1 = ta ∨ t.1 = 9)) M ML → gJ p l e ({ frames := 12, cells := 9020, slots := 61000, locals := 300 } : Room) s m ([.ref of, .int (nI k)] : List Value).toArray below meth c G 4 (MQ below (gQi G (fun r9 M9 k9 => r9 = (if (busT k (f (256 * k + 14)) 1000 0 f).1 (256 * k + 14) ≤ f (256 * k + 14) then -5 else nI (busT k (f (256 * k + 14)) 1000 0 f).2) ∧ gFr (gT (fun t => t.1 = ta ∨ t.1 = 9)) M M9 ∧ k9 ≤ 9004)) ([.ref of, .int (nI k)] : List Value).toArray s 9020 61000 (gA G)) cc (61 * i) ML 12 [(0, .ref of), (1, .int (nI k)), (2, .int (f (256 * k + 14))), (3, .int (nI j))] [] := by
    intro n9
    induction n9 with
    | zero => intro i j cc ML hj hi hr hx hcc hc4 hmu; exact absurd hmu (Nat.not_lt_zero _)
    | succ n9 ih =>
      intro i j cc ML hj hi hr hx hcc hc4 hmu  hLp_0 hLF
      refine g_iload_n hC dX1_bitsUntilSent_12 3 rfl 13 rfl ?_
      refine g_sipush hC dX1_bitsUntilSent_13 ks_1000 16 rfl ?_
      refine g_icmp_gt hC dX1_bitsUntilSent_16 44 rfl 19 rfl (fun c_4 => ?_) (fun c_4 => ?_)
      · replace c_4 : 1000 < j := nn_lt (by omega) (by omega) c_4
        have hq9 : (busT k (f (256 * k + 14)) 1000 0 f) = (T_bits f i, i) := (by rw [← hr, show 1000 - i = 0 by omega]; rfl)
        refine g_bipush hC dX1_bitsUntilSent_44 kb_m5 46 rfl ?_
        exact g_iret (v := -5) hC (fun k9 hk9 => ⟨(by rw [hq9]; exact (if_pos (by show T_bits f i _ ≤ _; rw [hx]; exact Int32.le_refl _)).symm), hLF, (by first | exact Nat.le_zero.mp hk9 | omega)⟩) dX1_bitsUntilSent_46 (by first | omega | (dsimp only; omega)) (by first | omega | (dsimp only; omega))
      · replace c_4 : j ≤ 1000 := nn_nlt (by omega) (by omega) c_4
        have hS9 := busR.sent hLp_0 (by omega) hk
        refine g_aload_n hC dX1_bitsUntilSent_19 0 rfl gRef_r 20 rfl ?_
        refine g_callvA (g_V (As := []) (rest := []) hC mvX1_step q1814 (busR.cls hC.K hLp_0) (met_B_step l G ML ta of (T_bits f i) (q + i) hta (by omega) hLp_0) ⟨rfl, rfl⟩ ⟨(Nat.le_of_ble_eq_true rfl), (Nat.le_of_ble_eq_true rfl)⟩ rfl (Nat.le_of_ble_eq_true rfl) dX1_bitsUntilSent_20 rfl ⟨(by first | omega | (dsimp only; omega)), (by first | omega | (dsimp only; omega))⟩) 23 rfl (fun M5 k6 hp7 => ?_)
        obtain ⟨hpd9, hF10, hq11, hk12⟩ := hp7
        have hB13 : busR M5 G ta of (T_bits f (i + 1)) (q + (i + 1)) := hpd9
        obtain ⟨bn_z14, bd_z14, bh_z14, nd_z14, tn_z14, pl_z14, ol_z14, rv_z14, A_z14, x_z14, b0_z14, b1_z14, hA_z14, hN_z14, hR_z14, ht_z14, hl_z14, hp_z14, hW_z14⟩ := busR.nd hB13 hta (show k < 4 by omega)
        obtain ⟨sa_z15, wa_z15, rc_z15, an_z15, er_z15, hO_z15⟩ := isNd.cell hN_z14
        refine g_aload_n hC dX1_bitsUntilSent_23 0 rfl gRef_r 24 rfl ?_
        refine g_get (v := .ref bn_z14) hC cI1 b0_z14 0 (Nat.le_of_ble_eq_true rfl) q469 rfl dX1_bitsUntilSent_24 27 rfl ?_
        refine g_iload_n hC dX1_bitsUntilSent_27 1 rfl 28 rfl ?_
        refine g_aldq (r := some nd_z14) hC b1_z14 4 rfl (vp_in_nI (by omega) (by omega)) ((congrArg A_z14 (nI_clamp (by omega))).trans hA_z14) dX1_bitsUntilSent_28 29 rfl ?_
        refine g_getN (v := .int (x_z14.g 22)) hC cI2 hO_z15 22 (Nat.le_of_ble_eq_true rfl) q415 rfl dX1_bitsUntilSent_29 32 rfl ?_
        refine g_topi (y := T_bits f (i + 1) (256 * k + 14)) (relN.g22 hR_z14) ?_
        refine g_iload_n hC dX1_bitsUntilSent_32 2 rfl 33 rfl ?_
        refine g_icmp_le hC dX1_bitsUntilSent_33 38 rfl 36 rfl (fun c_16 => ?_) (fun c_16 => ?_)
        · refine g_iinc hC dX1_bitsUntilSent_38 3 rfl (v := nI (j + 1)) (by rw [ki_1]; exact nI_a (a := j) (b := 1) (c := (j + 1)) (by omega)) (Nat.le_of_ble_eq_true rfl) [(3, .int (nI (j + 1))), (0, .ref of), (1, .int (nI k)), (2, .int (f (256 * k + 14)))] rfl 41 rfl ?_
          refine g_goto hC dX1_bitsUntilSent_41 12 rfl ?_
          refine gJ.sub (M' := M5) [1, 2, 3, 0] rfl ?_
          refine gJ.widen (k := cc + k6) (n := 61 * (i + 1)) (by first | omega | (dsimp only; omega)) (by first | omega | (dsimp only; omega)) ?_
          exact ih (i + 1) (j + 1) (cc + k6) M5 (by omega) (by omega) (by rw [← hr, show 1000 - i = (1000 - (i + 1)) + 1 by omega, busT_go hx]; rfl) (sent_eq (a := T_bits f (i + 1) (256 * k + 14)) (by rw [← hx]; exact hS9) c_16) (show cc + k6 + crdF (T_bit (T_bits f i)) ≤ 9 * (i + 1) + crdF f by omega) hc4 (by omega) hB13 (hLF.trans (gFr.refl.trans (hF10.mono (fun b t h => by obtain ⟨u9, v9⟩ := t; revert h; (try simp only [ndT, tgE, gT, tgR, ndT9, ndW, tg0, Prod.mk.injEq, true_and, and_true, cpyT]); first | done | omega | (simp; done) | (intro h; simp_all; done)))))
        · have hq9 : (busT k (f (256 * k + 14)) 1000 0 f) = (T_bits f (i + 1), i + 1) := (by rw [← hr, show 1000 - i = (1000 - (i + 1)) + 1 by omega, busT_go hx]; exact busT_stop (fun z => c_16 (by show T_bit (T_bits f i) _ ≤ _; rw [z]; exact Int32.le_refl _)))
          refine g_iload_n hC dX1_bitsUntilSent_36 3 rfl 37 rfl ?_
          exact g_iret (v := nI j) hC (fun k9 hk9 => ⟨(by rw [hq9, hj]; exact (if_neg c_16).symm), (hLF.trans (gFr.refl.trans (hF10.mono (fun b t h => by obtain ⟨u9, v9⟩ := t; revert h; (try simp only [ndT, tgE, gT, tgR, ndT9, ndW, tg0, Prod.mk.injEq, true_and, and_true, cpyT]); first | done | omega | (simp; done) | (intro h; simp_all; done))))), (by first | exact Nat.le_zero.mp hk9 | omega)⟩) dX1_bitsUntilSent_37 (by first | omega | (dsimp only; omega)) (by first | omega | (dsimp only; omega))
  refine gJ.sub (M' := M) [2, 3, 1, 0] rfl ?_
  refine gJ.widen (k := 0) (n := 61 * 0) (by first | omega | (dsimp only; omega)) (by first | omega | (dsimp only; omega)) ?_
  exact loop12 _ 0 1 0 M rfl (by omega) rfl rfl (by show 0 + crdF f ≤ 9 * 0 + crdF f; omega) crdF_le (Nat.lt_succ_self _) hB3 gFr.refl
