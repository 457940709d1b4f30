/-! the reference: load -/
set_option maxRecDepth 100000
theorem fltT_two {h : Nat → Int32} {lc : Nat} : (F p : Nat) → p ≤ lc → (∀ q, (rqT h q).2.isSome = true → (rqT h q).1 ≤ lc) → fltT h lc F p = -5 ∨ ∃ z, z ≤ lc + 15 ∧ fltT h lc F p = nI z
  | 0, _, _, _ => Or.inl rfl
  | F + 1, p, hp, hq => by
    simp only [fltT]; split
    · split
      · rename_i h2; exact fltT_two F _ (hq p h2) hq
      · exact Or.inr ⟨_, Nat.le_trans rqT_le (by omega), rfl⟩
    · exact Or.inl rfl
theorem fltT_ok {h : Nat → Int32} {lc F p : Nat} (h0 : p < lc) (hl : lc ≤ 120) (hF : 1 ≤ F) (he : fltT h lc F p = -5) : (rqT h p).2.isSome = true ∧ fltT h lc (F - 1) (rqT h p).1 = -5 := by
  by_cases h2 : (rqT h p).2.isSome = true
  · exact ⟨h2, (fltT_go h0 h2 hF).trans he⟩
  · have h3 := (fltT_no h0 h2 hF).trans he
    have h4 := rqT_le (h := h) (q := p)
    exact absurd (h3 ▸ nI_pos (n := (rqT h p).1) (by omega)) (by decide)
theorem shT_lo {k i : Nat} {F : Nat → Int32} {j : Nat} (hj : j < 256 * k + 30) : shT F k i j = F j := by
  simp only [shT]; rw [pk_un (by omega), pk_un (by omega), pk_un (by omega), pk_un (by omega), pk_un (by omega)]
theorem wtT_lo {k : Nat} {key : Int32} {j : Nat} (hj : j < 256 * k + 30) : (i : Nat) → (F : Nat → Int32) → (wtT k key i F).1 j = F j
  | 0, _ => rfl
  | i + 1, F => by
    simp only [wtT]; split
    · rfl
    · rw [wtT_lo hj i, shT_lo hj]
theorem waits_23 {k nw : Nat} {id rm ln da : Int32} {f : Nat → Int32} : T_waits f k id rm ln da nw (256 * k + 23) = f (256 * k + 23) + 1 := by
  simp only [T_waits]
  rw [pk_us, pk_un (by omega), pk_un (by omega), pk_un (by omega), pk_un (by omega), pk_un (by omega), wtT_lo (by omega)]
def okW (f : Nat → Int32) : Prop := ∀ k, k < 4 → ∃ nw, nw ≤ 4 ∧ f (256 * k + 23) = nI nw
theorem okW.waits {f : Nat → Int32} (h : okW f) {k nw : Nat} {id rm ln da : Int32} (hk : k < 4) (hn : nw ≤ 3) (e : f (256 * k + 23) = nI nw) : okW (T_waits f k id rm ln da nw) := by
  intro j hj
  by_cases q : j = k
  · subst q; exact ⟨nw + 1, by omega, by rw [waits_23, e]; exact nI_a (a := nw) (b := 1) rfl⟩
  · obtain ⟨z, z1, z2⟩ := h j hj
    exact ⟨z, z1, by rw [loc_waits (k := k) (f := f) (fun _ _ => rfl) hn (256 * j + 23) (by omega)]; exact z2⟩
def ldS (f : Nat → Int32) (n : Nat) (t : rqR) : (Nat → Int32) × Nat :=
  if f (256 * t.1.toNatClampNeg + 23) < 4 then (T_waits f t.1.toNatClampNeg t.2.1 t.2.2.1 t.2.2.2.1 t.2.2.2.2 (f (256 * t.1.toNatClampNeg + 23)).toNatClampNeg, n + 1) else (f, n)
def ldT (h : Nat → Int32) (lc : Nat) : Nat → Nat → (Nat → Int32) × Nat → (Nat → Int32) × Nat
  | 0, _, s => s
  | F + 1, p, s => if p < lc then ldT h lc F (rqT h p).1 (match (rqT h p).2 with | none => s | some t => ldS s.1 s.2 t) else s
theorem ldT_go {h : Nat → Int32} {lc F p : Nat} {s : (Nat → Int32) × Nat} {t : rqR} (h1 : p < lc) (ht : (rqT h p).2 = some t) (hF : 1 ≤ F) : ldT h lc (F - 1) (rqT h p).1 (ldS s.1 s.2 t) = ldT h lc F p s := by
  obtain ⟨F, rfl⟩ : ∃ z, F = z + 1 := ⟨F - 1, by omega⟩
  simp only [ldT, if_pos h1, ht, Nat.add_sub_cancel]
theorem ldT_end {h : Nat → Int32} {lc p : Nat} {s : (Nat → Int32) × Nat} (h1 : lc ≤ p) : (F : Nat) → ldT h lc F p s = s
  | 0 => rfl
  | F + 1 => by simp only [ldT, if_neg (Nat.not_lt.mpr h1)]
set_option maxHeartbeats 4000000 in
theorem met_T_load_f (l : Launch) (G : gG) (M : gM) (o : Nat) (av : Nat) (asp : Nat) (ak : Nat) (aik : Nat) (atx : Nat) (lc : Nat) (am : Nat) (mn : Int32) (aa : Nat) (pc_ : Nat) (ato : Nat) (tx : Nat → Int32) (to : Nat → Int32) (f : Nat → Int32) (pf : Nat) (hlc : lc ≤ 120) (hf : fltT (hereT tx lc) lc (lc + 1) 0 = nI pf) (hpf : pf ≤ 135) (hM_0 : M o = some ((1, 0), .inr (7, [.ref av, .ref asp, .ref ak, .ref aik, .ref atx, .int (nI lc), .ref am, .int mn, .ref aa, .int (nI pc_), .ref ato]))) (hM_1 : M atx = some ((1, 5), .inl (gcs G 0, 120, .inl tx))) (hM_2 : M ato = some ((1, 8), .inl (gcs G 0, 5, .inl to))) (hM_3 : M av = some ((1, 1), .inl (gcs G 0, 1310, .inl f))) : Met l yX8_load (ws_ yX8_load cX8_load 4 (some .int)) ({ frames := 4, cells := 0, slots := 0, locals := 85 }) (gPc G [.ref o] M) (gQi G (fun r9 M9 k9 => ∃ T : Nat → Int32, ∃ pe : Nat, r9 = (-1000 - nI pf) ∧ M9 o = some ((1, 0), .inr (7, [.ref av, .ref asp, .ref ak, .ref aik, .ref atx, .int (nI lc), .ref am, .int mn, .ref aa, .int (nI pe), .ref ato])) ∧ M9 ato = some ((1, 8), .inl (gcs G 0, 5, .inl T)) ∧ gFr (gL [o, ato]) M M9 ∧ pe ≤ 135 ∧ k9 = 0)) 0 0 (gA G) := by
  refine gMet [(0, .ref o)] (by decide) (Nat.le_of_ble_eq_true rfl) rfl ?_
  intro p e s m below meth c hC
  refine g_aload_n hC dX8_load_0 0 rfl gRef_r 1 rfl ?_
  refine g_calli (g_V (As := []) (rest := []) hC mvX8_faultOf q3347 (gOf.of hC.K cI7 hM_0) (met_T_faultOf l G M o av asp ak aik atx lc am mn aa pc_ ato tx to hlc hM_0 hM_1 hM_2) ⟨rfl, rfl⟩ ⟨(Nat.le_of_ble_eq_true rfl), (Nat.le_of_ble_eq_true rfl)⟩ rfl (Nat.le_of_ble_eq_true rfl) dX8_load_1 rfl ⟨(Nat.le_of_ble_eq_true rfl), (Nat.le_of_ble_eq_true rfl)⟩) 0 (Nat.le_of_ble_eq_true rfl) 0 (Nat.le_of_ble_eq_true rfl) 4 rfl (fun r4 M1 k2 hp3 => ?_)
  obtain ⟨T_5, pe_6, rfl, hc7, hc8, hF9, hq10, hk11⟩ := hp3
  refine g_topi (y := nI pf) hf ?_
  refine g_istore_n hC dX8_load_4 rfl (Nat.le_of_ble_eq_true rfl) [(1, .int (nI pf)), (0, .ref o)] rfl 5 rfl ?_
  refine g_iload_n hC dX8_load_5 0 rfl 6 rfl ?_
  refine g_if_lt hC dX8_load_6 15 rfl 9 rfl (fun c_12 => ?_) (fun c_12 => ?_)
  · replace c_12 : pf < 0 := nn_lt (by omega) (by omega) c_12
    exact absurd c_12 (Nat.not_lt_zero _)
  · replace c_12 : 0 ≤ pf := nn_nlt (by omega) (by omega) c_12
    refine g_sipush hC dX8_load_9 ks_m1000 12 rfl ?_
    refine g_iload_n hC dX8_load_12 0 rfl 13 rfl ?_
    refine g_isub hC dX8_load_13 14 rfl ?_
    exact g_iret (v := (-1000) - (nI pf)) hC (fun k9 hk9 => ⟨T_5, pe_6, rfl, hc7, hc8, (gFr.refl.trans (hF9.mono (by intro b t hb; simp at hb ⊢; first | done | (rcases hb with rfl | rfl | rfl | rfl <;> simp) | (simp [hb]; done)))), (by omega), (by first | exact Nat.le_zero.mp hk9 | omega)⟩) dX8_load_14 (Nat.le_of_ble_eq_true rfl) (Nat.le_of_ble_eq_true rfl)
theorem nk_of2 {t1 x : Int32} (e : t1 = x) (h : 0 ≤ x ∧ x ≤ 3) : ∃ k : Nat, k < 4 ∧ t1 = nI k := by subst e; exact nk_of h
theorem ldS_no {f : Nat → Int32} {n : Nat} {t : rqR} {kk : Nat} (hk : kk < 4) (e : t.1 = nI kk) (h : ¬ f (256 * kk + 23) < 4) : ldS f n t = (f, n) := by
  simp only [ldS, e, nI_clamp (show kk < 2 ^ 31 by omega), if_neg h]
theorem ldS_go {f : Nat → Int32} {n : Nat} {t : rqR} {kk nw : Nat} (hk : kk < 4) (e : t.1 = nI kk) (hw : nw ≤ 4) (hn : f (256 * kk + 23) = nI nw) (h : f (256 * kk + 23) < 4) : ldS f n t = (T_waits f kk t.2.1 t.2.2.1 t.2.2.2.1 t.2.2.2.2 nw, n + 1) := by
  simp only [ldS, e, nI_clamp (show kk < 2 ^ 31 by omega), if_pos h]
  rw [hn, nI_clamp (show nw < 2 ^ 31 by omega)]
set_option maxHeartbeats 4000000 in
theorem met_T_load (l : Launch) (G : gG) (M : gM) (o : Nat) (av : Nat) (asp : Nat) (ak : Nat) (aik : Nat) (atx : Nat) (lc : Nat) (am : Nat) (mn : Int32) (aa : Nat) (pc_ : Nat) (ato : Nat) (tx : Nat → Int32) (to : Nat → Int32) (f : Nat → Int32) (hlc : lc ≤ 120) (hf : fltT (hereT tx lc) lc (lc + 1) 0 = -5) (hw0 : okW f) (hM_0 : M o = some ((1, 0), .inr (7, [.ref av, .ref asp, .ref ak, .ref aik, .ref atx, .int (nI lc), .ref am, .int mn, .ref aa, .int (nI pc_), .ref ato]))) (hM_1 : M atx = some ((1, 5), .inl (gcs G 0, 120, .inl tx))) (hM_2 : M ato = some ((1, 8), .inl (gcs G 0, 5, .inl to))) (hM_3 : M av = some ((1, 1), .inl (gcs G 0, 1310, .inl f))) : Met l yX8_load (ws_ yX8_load cX8_load 4 (some .int)) ({ frames := 4, cells := 0, slots := 0, locals := 85 }) (gPc G [.ref o] M) (gQi G (fun r9 M9 k9 => ∃ T : Nat → Int32, ∃ pe : Nat, r9 = (nI (ldT (hereT tx lc) lc (lc + 1) 0 (f, 0)).2) ∧ M9 o = some ((1, 0), .inr (7, [.ref av, .ref asp, .ref ak, .ref aik, .ref atx, .int (nI lc), .ref am, .int mn, .ref aa, .int (nI pe), .ref ato])) ∧ M9 av = some ((1, 1), .inl (gcs G 0, 1310, .inl ((ldT (hereT tx lc) lc (lc + 1) 0 (f, 0)).1))) ∧ M9 ato = some ((1, 8), .inl (gcs G 0, 5, .inl T)) ∧ gFr (gL [o, av, ato]) M M9 ∧ pe ≤ 135 ∧ k9 = 0)) 0 0 (gA G) := by
  refine gMet [(0, .ref o)] (by decide) (Nat.le_of_ble_eq_true rfl) rfl ?_
  intro p e s m below meth c hC
  refine g_aload_n hC dX8_load_0 0 rfl gRef_r 1 rfl ?_
  refine g_calli (g_V (As := []) (rest := []) hC mvX8_faultOf q3347 (gOf.of hC.K cI7 hM_0) (met_T_faultOf l G M o av asp ak aik atx lc am mn aa pc_ ato tx to hlc hM_0 hM_1 hM_2) ⟨rfl, rfl⟩ ⟨(Nat.le_of_ble_eq_true rfl), (Nat.le_of_ble_eq_true rfl)⟩ rfl (Nat.le_of_ble_eq_true rfl) dX8_load_1 rfl ⟨(Nat.le_of_ble_eq_true rfl), (Nat.le_of_ble_eq_true rfl)⟩) 0 (Nat.le_of_ble_eq_true rfl) 0 (Nat.le_of_ble_eq_true rfl) 4 rfl (fun r4 M1 k2 hp3 => ?_)
  obtain ⟨T_5, pe_6, rfl, hc7, hc8, hF9, hq10, hk11⟩ := hp3
  refine g_topi (y := -5) hf ?_
  refine g_istore_n hC dX8_load_4 rfl (Nat.le_of_ble_eq_true rfl) [(1, .int (-5)), (0, .ref o)] rfl 5 rfl ?_
  refine g_iload_n hC dX8_load_5 0 rfl 6 rfl ?_
  refine g_if_lt hC dX8_load_6 15 rfl 9 rfl (fun c_12 => ?_) (fun c_12 => ?_)
  · refine g_iconst hC dX8_load_15 ki_0 16 rfl ?_
    refine g_istore_n hC dX8_load_16 rfl (Nat.le_of_ble_eq_true rfl) [(2, .int 0), (1, .int (-5)), (0, .ref o)] rfl 17 rfl ?_
    refine g_aload_n hC dX8_load_17 2 rfl gRef_r 18 rfl ?_
    refine g_iconst hC dX8_load_18 ki_0 19 rfl ?_
    refine g_put hC cI7 hc7 9 (Nat.le_of_ble_eq_true rfl) q2951 rfl rfl rfl (Nat.le_of_ble_eq_true rfl) dX8_load_19 (fs' := [.ref av, .ref asp, .ref ak, .ref aik, .ref atx, .int (nI lc), .ref am, .int mn, .ref aa, .int 0, .ref ato]) rfl 22 rfl (fun M13 hU14 => ?_)
    have loop22 : ∀ (n9 : Nat) (p1 : Nat) (T : Nat → Int32) (fv : Nat → Int32) (n : Nat) (F : Nat) (ML : gM), (hp : p1 ≤ lc) → (hF : lc + 1 ≤ F + p1) → (hn : n ≤ p1) → (hw : okW fv) → (hfl : fltT (hereT tx lc) lc F p1 = -5) → (ht : ldT (hereT tx lc) lc F p1 (fv, n) = ldT (hereT tx lc) lc (lc + 1) 0 (f, 0)) → F < n9 → (ML o = some ((1, 0), .inr (7, [.ref av, .ref asp, .ref ak, .ref aik, .ref atx, .int (nI lc), .ref am, .int mn, .ref aa, .int (nI p1), .ref ato]))) → (ML atx = some ((1, 5), .inl (gcs G 0, 120, .inl tx))) → (ML ato = some ((1, 8), .inl (gcs G 0, 5, .inl T))) → (ML av = some ((1, 1), .inl (gcs G 0, 1310, .inl fv))) → gFr (gL [o, av, ato]) M ML → gJ p l e ({ frames := 4, cells := 0, slots := 0, locals := 85 } : Room) s m ([.ref o] : List Value).toArray below meth c G 4 (MQ below (gQi G (fun r9 M9 k9 => ∃ T : Nat → Int32, ∃ pe : Nat, r9 = (nI (ldT (hereT tx lc) lc (lc + 1) 0 (f, 0)).2) ∧ M9 o = some ((1, 0), .inr (7, [.ref av, .ref asp, .ref ak, .ref aik, .ref atx, .int (nI lc), .ref am, .int mn, .ref aa, .int (nI pe), .ref ato])) ∧ M9 av = some ((1, 1), .inl (gcs G 0, 1310, .inl ((ldT (hereT tx lc) lc (lc + 1) 0 (f, 0)).1))) ∧ M9 ato = some ((1, 8), .inl (gcs G 0, 5, .inl T)) ∧ gFr (gL [o, av, ato]) M M9 ∧ pe ≤ 135 ∧ k9 = 0)) ([.ref o] : List Value).toArray s 0 0 (gA G)) 0 0 ML 22 [(0, .ref o), (1, .int (-5)), (2, .int (nI n))] [] := by
      intro n9
      induction n9 with
      | zero => intro p1 T fv n F ML hp hF hn hw hfl ht hmu; exact absurd hmu (Nat.not_lt_zero _)
      | succ n9 ih =>
        intro p1 T fv n F ML hp hF hn hw hfl ht hmu hL_0 hL_1 hL_2 hL_3 hLF
        refine g_aload_n hC dX8_load_22 0 rfl gRef_r 23 rfl ?_
        refine g_get (v := .int (nI p1)) hC cI7 hL_0 9 (Nat.le_of_ble_eq_true rfl) q2951 rfl dX8_load_23 26 rfl ?_
        refine g_aload_n hC dX8_load_26 0 rfl gRef_r 27 rfl ?_
        refine g_get (v := .int (nI lc)) hC cI7 hL_0 5 (Nat.le_of_ble_eq_true rfl) q2947 rfl dX8_load_27 30 rfl ?_
        refine g_icmp_ge hC dX8_load_30 99 rfl 33 rfl (fun c_15 => ?_) (fun c_15 => ?_)
        · replace c_15 : lc ≤ p1 := nn_le (by omega) (by omega) c_15
          refine g_iload_n hC dX8_load_99 2 rfl 100 rfl ?_
          have hE : ldT (hereT tx lc) lc (lc + 1) 0 (f, 0) = (fv, n) := by rw [← ht]; exact ldT_end c_15 _
          exact g_iret (v := nI n) hC (fun k9 hk9 => ⟨T, p1, (by rw [hE]), hL_0, (by rw [hL_3, hE]), hL_2, hLF, (by omega), (by first | exact Nat.le_zero.mp hk9 | omega)⟩) dX8_load_100 (Nat.le_of_ble_eq_true rfl) (Nat.le_of_ble_eq_true rfl)
        · replace c_15 : p1 < lc := nn_nle (by omega) (by omega) c_15
          refine g_aload_n hC dX8_load_33 0 rfl gRef_r 34 rfl ?_
          refine g_aload_n hC dX8_load_34 0 rfl gRef_r 35 rfl ?_
          refine g_get (v := .ref ato) hC cI7 hL_0 10 (Nat.le_of_ble_eq_true rfl) q2952 rfl dX8_load_35 38 rfl ?_
          refine g_calli (g_V (As := [.ref ato]) (rest := []) hC mvX8_isRequest q3351 (gOf.of hC.K cI7 hL_0) (met_T_isRequest l G ML o av asp ak aik atx lc am mn aa p1 ato tx T hlc (by omega) hL_0 hL_1 hL_2) ⟨rfl, rfl⟩ ⟨(Nat.le_of_ble_eq_true rfl), (Nat.le_of_ble_eq_true rfl)⟩ rfl (Nat.le_of_ble_eq_true rfl) dX8_load_38 rfl ⟨(Nat.le_of_ble_eq_true rfl), (Nat.le_of_ble_eq_true rfl)⟩) 0 (Nat.le_of_ble_eq_true rfl) 0 (Nat.le_of_ble_eq_true rfl) 41 rfl (fun r19 M16 k17 hp18 => ?_)
          obtain ⟨T_20, rfl, hc21, hc22, hF23, hq24, hk25⟩ := hp18
          refine g_istore_n hC dX8_load_41 rfl (Nat.le_of_ble_eq_true rfl) [(3, .int (bI ((rqT (hereT tx lc) p1).2.isSome))), (0, .ref o), (1, .int (-5)), (2, .int (nI n))] rfl 42 rfl ?_
          refine g_iload_n hC dX8_load_42 0 rfl 43 rfl ?_
          refine g_if_eq hC dX8_load_43 96 rfl 46 rfl (fun c_26 => ?_) (fun c_26 => ?_)
          · replace c_26 : (rqT (hereT tx lc) p1).2.isSome = false := bB_e0 c_26
            exact absurd (c_26.symm.trans (fltT_ok (by omega) (by omega) (by omega) hfl).1) (by decide)
          · replace c_26 : (rqT (hereT tx lc) p1).2.isSome = true := bB_n0 c_26
            obtain ⟨t9, ht9⟩ := Option.isSome_iff_exists.mp c_26
            obtain ⟨e0, e1, e2, e3, e4⟩ := hq24 t9 ht9
            obtain ⟨kk, hkk, ekk⟩ : ∃ kk : Nat, kk < 4 ∧ t9.1 = nI kk := by obtain ⟨q1, -, -, -, a4, a5⟩ := rqT_some ht9; exact nk_of2 a4 a5
            rw [ekk] at e0
            obtain ⟨nw, hnw4, hnw⟩ := hw kk hkk
            refine g_aload_n hC dX8_load_46 1 rfl gRef_r 47 rfl ?_
            refine g_aload_n hC dX8_load_47 1 rfl gRef_r 48 rfl ?_
            refine g_get (v := .ref ato) hC cI7 hc21 10 (Nat.le_of_ble_eq_true rfl) q2952 rfl dX8_load_48 51 rfl ?_
            refine g_iconst hC dX8_load_51 ki_0 52 rfl ?_
            refine g_iald (v := nI kk) hC hc22 0 rfl (vp_in_nI (n := 0) (by first | decide | omega) (by first | decide | omega)) ((congrArg T_20 (nI_clamp (n := 0) (by decide))).trans e0) dX8_load_52 53 rfl ?_
            refine g_calliP (g_V (As := [.int (nI kk)]) (rest := []) hC mvX8_isRoom q3064 (gOf.of hC.K cI7 hc21) (met_T_isRoom l G M16 o av asp ak aik atx (nI lc) am mn aa (nI ((rqT (hereT tx lc) p1).1)) ato fv kk hkk hc21 (hF23 _ _ _ hL_3 (gno (gne_ao hL_3 hL_0) (gno (gne_t hL_3 hL_2 (by first | assumption | decide | simp | (intro h; simp at h))) gno0)))) ⟨rfl, rfl⟩ ⟨(Nat.le_of_ble_eq_true rfl), (Nat.le_of_ble_eq_true rfl)⟩ rfl (Nat.le_of_ble_eq_true rfl) dX8_load_53 rfl ⟨(Nat.le_of_ble_eq_true rfl), (Nat.le_of_ble_eq_true rfl)⟩) 56 rfl 0 (Nat.le_of_ble_eq_true rfl) ?_
            refine g_if_eq hC dX8_load_56 96 rfl 59 rfl (fun c_27 => ?_) (fun c_27 => ?_)
            · replace c_27 := bId_0 c_27
              refine g_goto hC dX8_load_96 22 rfl ?_
              refine gJ.sub (M' := M16) [1, 2, 3] rfl ?_
              exact ih ((rqT (hereT tx lc) p1).1) T_20 fv n (F - 1) M16 (rqT_in c_26).2 (by have := rqT_in c_26; omega) (by have := rqT_in c_26; omega) hw (fltT_ok (by omega) (by omega) (by omega) hfl).2 (by rw [← ht, ← ldT_go (by omega) ht9 (by omega), ldS_no hkk ekk c_27]) (by omega) hc21 (hF23 _ _ _ hL_1 (gno (gne_ao hL_1 hL_0) (gno (gne_t hL_1 hL_2 (by first | assumption | decide | simp | (intro h; simp at h))) gno0))) hc22 (hF23 _ _ _ hL_3 (gno (gne_ao hL_3 hL_0) (gno (gne_t hL_3 hL_2 (by first | assumption | decide | simp | (intro h; simp at h))) gno0))) (hLF.trans (hF23.mono (by intro b t hb; simp at hb ⊢; first | done | (rcases hb with rfl | rfl | rfl | rfl <;> simp) | (simp [hb]; done))))
            · replace c_27 := bId_1 c_27
              have hn3 : nw ≤ 3 := by have hq := c_27; rw [hnw] at hq; have := nn_lt (b := 4) (by omega) (by omega) hq; omega
              refine g_aload_n hC dX8_load_59 1 rfl gRef_r 60 rfl ?_
              refine g_aload_n hC dX8_load_60 1 rfl gRef_r 61 rfl ?_
              refine g_get (v := .ref ato) hC cI7 hc21 10 (Nat.le_of_ble_eq_true rfl) q2952 rfl dX8_load_61 64 rfl ?_
              refine g_iconst hC dX8_load_64 ki_0 65 rfl ?_
              refine g_iald (v := nI kk) hC hc22 0 rfl (vp_in_nI (n := 0) (by first | decide | omega) (by first | decide | omega)) ((congrArg T_20 (nI_clamp (n := 0) (by decide))).trans e0) dX8_load_65 66 rfl ?_
              refine g_aload_n hC dX8_load_66 1 rfl gRef_r 67 rfl ?_
              refine g_get (v := .ref ato) hC cI7 hc21 10 (Nat.le_of_ble_eq_true rfl) q2952 rfl dX8_load_67 70 rfl ?_
              refine g_iconst hC dX8_load_70 ki_1 71 rfl ?_
              refine g_iald (v := T_20 1) hC hc22 0 rfl (vp_in_nI (n := 1) (by first | decide | omega) (by first | decide | omega)) ((congrArg T_20 (nI_clamp (n := 1) (by decide))).trans rfl) dX8_load_71 72 rfl ?_
              refine g_aload_n hC dX8_load_72 1 rfl gRef_r 73 rfl ?_
              refine g_get (v := .ref ato) hC cI7 hc21 10 (Nat.le_of_ble_eq_true rfl) q2952 rfl dX8_load_73 76 rfl ?_
              refine g_iconst hC dX8_load_76 ki_2 77 rfl ?_
              refine g_iald (v := T_20 2) hC hc22 0 rfl (vp_in_nI (n := 2) (by first | decide | omega) (by first | decide | omega)) ((congrArg T_20 (nI_clamp (n := 2) (by decide))).trans rfl) dX8_load_77 78 rfl ?_
              refine g_aload_n hC dX8_load_78 1 rfl gRef_r 79 rfl ?_
              refine g_get (v := .ref ato) hC cI7 hc21 10 (Nat.le_of_ble_eq_true rfl) q2952 rfl dX8_load_79 82 rfl ?_
              refine g_iconst hC dX8_load_82 ki_3 83 rfl ?_
              refine g_iald (v := T_20 3) hC hc22 0 rfl (vp_in_nI (n := 3) (by first | decide | omega) (by first | decide | omega)) ((congrArg T_20 (nI_clamp (n := 3) (by decide))).trans rfl) dX8_load_83 84 rfl ?_
              refine g_aload_n hC dX8_load_84 1 rfl gRef_r 85 rfl ?_
              refine g_get (v := .ref ato) hC cI7 hc21 10 (Nat.le_of_ble_eq_true rfl) q2952 rfl dX8_load_85 88 rfl ?_
              refine g_iconst hC dX8_load_88 ki_4 89 rfl ?_
              refine g_iald (v := T_20 4) hC hc22 0 rfl (vp_in_nI (n := 4) (by first | decide | omega) (by first | decide | omega)) ((congrArg T_20 (nI_clamp (n := 4) (by decide))).trans rfl) dX8_load_89 90 rfl ?_
              refine g_callv (g_V (As := [.int (nI kk), .int (T_20 1), .int (T_20 2), .int (T_20 3), .int (T_20 4)]) (rest := []) hC mvX8_waits q3068 (gOf.of hC.K cI7 hc21) (met_T_waits l G M16 o av asp ak aik atx (nI lc) am mn aa (nI ((rqT (hereT tx lc) p1).1)) ato fv kk (T_20 1) (T_20 2) (T_20 3) (T_20 4) nw hkk hnw hn3 hc21 (hF23 _ _ _ hL_3 (gno (gne_ao hL_3 hL_0) (gno (gne_t hL_3 hL_2 (by first | assumption | decide | simp | (intro h; simp at h))) gno0)))) ⟨rfl, rfl⟩ ⟨(Nat.le_of_ble_eq_true rfl), (Nat.le_of_ble_eq_true rfl)⟩ rfl (Nat.le_of_ble_eq_true rfl) dX8_load_90 rfl ⟨(Nat.le_of_ble_eq_true rfl), (Nat.le_of_ble_eq_true rfl)⟩) 0 (Nat.le_of_ble_eq_true rfl) 0 (Nat.le_of_ble_eq_true rfl) 93 rfl (fun M28 k29 hp30 => ?_)
              obtain ⟨hc32, hF33, hk34⟩ := hp30
              obtain ⟨F35, eF36⟩ : ∃ z9, z9 = T_waits fv kk (T_20 1) (T_20 2) (T_20 3) (T_20 4) nw := ⟨_, rfl⟩
              rw [← eF36] at hc32
              refine g_iinc hC dX8_load_93 3 rfl (v := nI (n + 1)) (by rw [ki_1]; exact nI_a (a := n) (b := 1) (c := (n + 1)) (by omega)) (Nat.le_of_ble_eq_true rfl) [(2, .int (nI (n + 1))), (3, .int (bI ((rqT (hereT tx lc) p1).2.isSome))), (0, .ref o), (1, .int (-5))] rfl 96 rfl ?_
              refine g_goto hC dX8_load_96 22 rfl ?_
              refine gJ.sub (M' := M28) [2, 3, 0] rfl ?_
              exact ih ((rqT (hereT tx lc) p1).1) T_20 F35 (n + 1) (F - 1) M28 (rqT_in c_26).2 (by have := rqT_in c_26; omega) (by have := rqT_in c_26; omega) (by rw [eF36]; exact hw.waits hkk hn3 hnw) (fltT_ok (by omega) (by omega) (by omega) hfl).2 (by rw [eF36, e1, e2, e3, e4, ← ht, ← ldT_go (by omega) ht9 (by omega), ldS_go hkk ekk hnw4 hnw c_27]) (by omega) (hF33 _ _ _ hc21 (gno (gne_oa hc21 (hF23 _ _ _ hL_3 (gno (gne_ao hL_3 hL_0) (gno (gne_t hL_3 hL_2 (by first | assumption | decide | simp | (intro h; simp at h))) gno0)))) gno0)) (hF33 _ _ _ (hF23 _ _ _ hL_1 (gno (gne_ao hL_1 hL_0) (gno (gne_t hL_1 hL_2 (by first | assumption | decide | simp | (intro h; simp at h))) gno0))) (gno (gne_t (hF23 _ _ _ hL_1 (gno (gne_ao hL_1 hL_0) (gno (gne_t hL_1 hL_2 (by first | assumption | decide | simp | (intro h; simp at h))) gno0))) (hF23 _ _ _ hL_3 (gno (gne_ao hL_3 hL_0) (gno (gne_t hL_3 hL_2 (by first | assumption | decide | simp | (intro h; simp at h))) gno0))) (by first | assumption | decide | simp | (intro h; simp at h))) gno0)) (hF33 _ _ _ hc22 (gno (gne_t hc22 (hF23 _ _ _ hL_3 (gno (gne_ao hL_3 hL_0) (gno (gne_t hL_3 hL_2 (by first | assumption | decide | simp | (intro h; simp at h))) gno0))) (by first | assumption | decide | simp | (intro h; simp at h))) gno0)) hc32 ((hLF.trans (hF23.mono (by intro b t hb; simp at hb ⊢; first | done | (rcases hb with rfl | rfl | rfl | rfl <;> simp) | (simp [hb]; done)))).trans (hF33.mono (by intro b t hb; simp at hb ⊢; first | done | (rcases hb with rfl | rfl | rfl | rfl <;> simp) | (simp [hb]; done))))
    refine gJ.sub (M' := M13) [2, 1, 0] rfl ?_
    exact loop22 _ 0 T_5 f 0 (lc + 1) M13 (by omega) (by omega) (by omega) hw0 hf rfl (Nat.lt_succ_self _) hU14.1 (hU14.n (gne_ao (hF9 _ _ _ hM_1 (gno (gne_ao hM_1 hM_0) (gno (gne_t hM_1 hM_2 (by first | assumption | decide | simp | (intro h; simp at h))) gno0))) hc7) (hF9 _ _ _ hM_1 (gno (gne_ao hM_1 hM_0) (gno (gne_t hM_1 hM_2 (by first | assumption | decide | simp | (intro h; simp at h))) gno0)))) (hU14.n (gne_ao hc8 hc7) hc8) (hU14.n (gne_ao (hF9 _ _ _ hM_3 (gno (gne_ao hM_3 hM_0) (gno (gne_t hM_3 hM_2 (by first | assumption | decide | simp | (intro h; simp at h))) gno0))) hc7) (hF9 _ _ _ hM_3 (gno (gne_ao hM_3 hM_0) (gno (gne_t hM_3 hM_2 (by first | assumption | decide | simp | (intro h; simp at h))) gno0)))) ((gFr.refl.trans (hF9.mono (by intro b t hb; simp at hb ⊢; first | done | (rcases hb with rfl | rfl | rfl | rfl <;> simp) | (simp [hb]; done)))).up hU14 hc7 (by simp))
  · exact absurd c_12 (by decide)
