/-! the reference: faults of a text, load -/
set_option maxRecDepth 100000
theorem here_lt {tx : Nat → Int32} {lc q : Nat} (h : hereT tx lc q = 59) : q < lc := by
  simp only [hereT] at h; split at h
  · exact absurd h (by decide)
  · omega
theorem hxG_le {h : Nat → Int32} {q : Nat} : (F n : Nat) → (v : Int32) → (hxG h q F n v).1 ≤ n + F
  | 0, n, v => Nat.le_refl _
  | F + 1, n, v => by
    simp only [hxG]; split
    · have := hxG_le (h := h) (q := q) F (n + 1) (v <<< (4 &&& 31) ||| hexF (h (q + n))); omega
    · show n ≤ _; omega
theorem rqE_some {h : Nat → Int32} {q : Nat} {t t' : rqR} (e : (rqE h q t).2 = some t') : h q = 59 ∧ (rqE h q t).1 = q + 1 ∧ t' = t := by
  simp only [rqE] at e ⊢
  split at e
  · rename_i h1; rw [if_pos h1]; exact ⟨h1, rfl, (Option.some.inj e).symm⟩
  · exact absurd e (by simp)
theorem rqE_le {h : Nat → Int32} {q : Nat} {t : rqR} : (rqE h q t).1 ≤ q + 1 := by
  simp only [rqE]; split
  · exact Nat.le_refl _
  · exact Nat.le_succ _
theorem rqD_some {h : Nat → Int32} {q : Nat} {no id : Int32} {t : rqR} (e : (rqD h q no id).2 = some t) : ∃ q1, q ≤ q1 ∧ h q1 = 59 ∧ (rqD h q no id).1 = q1 + 1 ∧ t.1 = no ∧ t.2.1 = id := by
  simp only [rqD] at e ⊢
  split at e
  · rename_i h1; rw [if_pos h1]
    split at e
    · rename_i h2; rw [if_pos h2]
      obtain ⟨e1, e2, e3⟩ := rqE_some e
      exact ⟨q + 2, by omega, e1, e2, by rw [e3], by rw [e3]⟩
    · exact absurd e (by simp)
  · rename_i h1; rw [if_neg h1]
    split at e
    · exact absurd e (by simp)
    · rename_i h2; rw [if_neg h2]
      obtain ⟨e1, e2, e3⟩ := rqE_some e
      exact ⟨_, Nat.le_add_right _ _, e1, e2, by rw [e3], by rw [e3]⟩
theorem rqD_le {h : Nat → Int32} {q : Nat} {no id : Int32} : (rqD h q no id).1 ≤ q + 9 := by
  have h8 := hxG_le (h := h) (q := q) 8 0 0
  simp only [rqD]
  split
  · split
    · exact Nat.le_trans rqE_le (by omega)
    · show q + 1 ≤ _; omega
  · split
    · show q + _ ≤ _; omega
    · exact Nat.le_trans rqE_le (by omega)
theorem rqT_le {h : Nat → Int32} {q : Nat} : (rqT h q).1 ≤ q + 15 := by
  have hd := rqD_le (h := h) (q := q + 6) (no := h q - 48) (id := idT h (q + 2))
  simp only [rqT]
  repeat' split
  all_goals first | exact Nat.le_trans hd (by omega) | (show q + _ ≤ _; omega) | (show q ≤ _; omega)
theorem rqT_some {h : Nat → Int32} {q : Nat} {t : rqR} (e : (rqT h q).2 = some t) : ∃ q1, q + 6 ≤ q1 ∧ h q1 = 59 ∧ (rqT h q).1 = q1 + 1 ∧ t.1 = h q - 48 ∧ (0 ≤ h q - 48 ∧ h q - 48 ≤ 3) := by
  simp only [rqT] at e ⊢
  split at e
  · rename_i h1; rw [if_pos h1]
    split at e
    · rename_i h2; rw [if_pos h2]
      split at e
      · exact absurd e (by simp)
      · rename_i h3; rw [if_neg h3]
        split at e
        · rename_i h4; rw [if_pos h4]
          split at e
          · exact absurd e (by simp)
          · rename_i h5; rw [if_neg h5]
            split at e
            · exact absurd e (by simp)
            · rename_i h6; rw [if_neg h6]
              split at e
              · rename_i h7; rw [if_pos h7]
                obtain ⟨q1, a1, a2, a3, a4, a5⟩ := rqD_some e
                exact ⟨q1, a1, a2, a3, a4, h1⟩
              · exact absurd e (by simp)
        · exact absurd e (by simp)
    · exact absurd e (by simp)
  · exact absurd e (by simp)
theorem rqT_in {tx : Nat → Int32} {lc q : Nat} (e : (rqT (hereT tx lc) q).2.isSome = true) : q < (rqT (hereT tx lc) q).1 ∧ (rqT (hereT tx lc) q).1 ≤ lc := by
  obtain ⟨t, ht⟩ := Option.isSome_iff_exists.mp e
  obtain ⟨q1, a1, a2, a3, _⟩ := rqT_some ht
  have := here_lt a2
  omega
def fltT (h : Nat → Int32) (lc : Nat) : Nat → Nat → Int32
  | 0, _ => -5
  | F + 1, p => if p < lc then (if (rqT h p).2.isSome = true then fltT h lc F (rqT h p).1 else nI (rqT h p).1) else -5
theorem fltT_go {h : Nat → Int32} {lc F p : Nat} (h1 : p < lc) (h2 : (rqT h p).2.isSome = true) (hF : 1 ≤ F) : fltT h lc (F - 1) (rqT h p).1 = fltT h lc F p := by
  obtain ⟨F, rfl⟩ : ∃ z, F = z + 1 := ⟨F - 1, by omega⟩
  simp only [fltT, if_pos h1, if_pos h2, Nat.add_sub_cancel]
theorem fltT_no {h : Nat → Int32} {lc F p : Nat} (h1 : p < lc) (h2 : ¬ (rqT h p).2.isSome = true) (hF : 1 ≤ F) : nI (rqT h p).1 = fltT h lc F p := by
  obtain ⟨F, rfl⟩ : ∃ z, F = z + 1 := ⟨F - 1, by omega⟩
  simp only [fltT, if_pos h1, if_neg h2]
theorem fltT_end {h : Nat → Int32} {lc p : Nat} (h1 : lc ≤ p) : (F : Nat) → fltT h lc F p = -5
  | 0 => rfl
  | F + 1 => by simp only [fltT, if_neg (Nat.not_lt.mpr h1)]
set_option maxHeartbeats 4000000 in
theorem met_T_faultOf (l : Launch) (G : gG) (M : gM) (o : Nat) (av : Nat) (asp : Nat) (ak : Nat) (aik : Nat) (atx : Nat) (lc : Nat) (am : Nat) (mn : Int32) (aa : Nat) (pc_ : Nat) (ato : Nat) (tx : Nat → Int32) (to : Nat → Int32) (hlc : lc ≤ 120) (hM_0 : M o = some ((1, 0), .inr (7, [.ref av, .ref asp, .ref ak, .ref aik, .ref atx, .int (nI lc), .ref am, .int mn, .ref aa, .int (nI pc_), .ref ato]))) (hM_1 : M atx = some ((1, 5), .inl (gcs G 0, 120, .inl tx))) (hM_2 : M ato = some ((1, 8), .inl (gcs G 0, 5, .inl to))) : Met l yX8_faultOf (ws_ yX8_faultOf cX8_faultOf 1 (some .int)) ({ frames := 3, cells := 0, slots := 0, locals := 65 }) (gPc G [.ref o] M) (gQi G (fun r9 M9 k9 => ∃ T : Nat → Int32, ∃ pe : Nat, r9 = (fltT (hereT tx lc) lc (lc + 1) 0) ∧ M9 o = some ((1, 0), .inr (7, [.ref av, .ref asp, .ref ak, .ref aik, .ref atx, .int (nI lc), .ref am, .int mn, .ref aa, .int (nI pe), .ref ato])) ∧ M9 ato = some ((1, 8), .inl (gcs G 0, 5, .inl T)) ∧ gFr (gL [o, ato]) M M9 ∧ pe ≤ 135 ∧ k9 = 0)) 0 0 (gA G) := by
  refine gMet [(0, .ref o)] (by decide) (Nat.le_of_ble_eq_true rfl) rfl ?_
  intro p e s m below meth c hC
  refine g_aload_n hC dX8_faultOf_0 0 rfl gRef_r 1 rfl ?_
  refine g_iconst hC dX8_faultOf_1 ki_0 2 rfl ?_
  refine g_put hC cI7 hM_0 9 (Nat.le_of_ble_eq_true rfl) q2951 rfl rfl rfl (Nat.le_of_ble_eq_true rfl) dX8_faultOf_2 (fs' := [.ref av, .ref asp, .ref ak, .ref aik, .ref atx, .int (nI lc), .ref am, .int mn, .ref aa, .int 0, .ref ato]) rfl 5 rfl (fun M1 hU2 => ?_)
  have loop5 : ∀ (n9 : Nat) (p1 : Nat) (T : Nat → Int32) (F : Nat) (ML : gM), (hp : p1 ≤ lc) → (hF : lc + 1 ≤ F + p1) → (ht : fltT (hereT tx lc) lc F p1 = fltT (hereT tx lc) lc (lc + 1) 0) → F < n9 → (ML o = some ((1, 0), .inr (7, [.ref av, .ref asp, .ref ak, .ref aik, .ref atx, .int (nI lc), .ref am, .int mn, .ref aa, .int (nI p1), .ref ato]))) → (ML atx = some ((1, 5), .inl (gcs G 0, 120, .inl tx))) → (ML ato = some ((1, 8), .inl (gcs G 0, 5, .inl T))) → gFr (gL [o, ato]) M ML → gJ p l e ({ frames := 3, cells := 0, slots := 0, locals := 65 } : Room) s m ([.ref o] : List Value).toArray below meth c G 1 (MQ below (gQi G (fun r9 M9 k9 => ∃ T : Nat → Int32, ∃ pe : Nat, r9 = (fltT (hereT tx lc) lc (lc + 1) 0) ∧ M9 o = some ((1, 0), .inr (7, [.ref av, .ref asp, .ref ak, .ref aik, .ref atx, .int (nI lc), .ref am, .int mn, .ref aa, .int (nI pe), .ref ato])) ∧ M9 ato = some ((1, 8), .inl (gcs G 0, 5, .inl T)) ∧ gFr (gL [o, ato]) M M9 ∧ pe ≤ 135 ∧ k9 = 0)) ([.ref o] : List Value).toArray s 0 0 (gA G)) 0 0 ML 5 [(0, .ref o)] [] := by
    intro n9
    induction n9 with
    | zero => intro p1 T F ML hp hF ht hmu; exact absurd hmu (Nat.not_lt_zero _)
    | succ n9 ih =>
      intro p1 T F ML hp hF ht hmu hL_0 hL_1 hL_2 hLF
      refine g_aload_n hC dX8_faultOf_5 0 rfl gRef_r 6 rfl ?_
      refine g_get (v := .int (nI p1)) hC cI7 hL_0 9 (Nat.le_of_ble_eq_true rfl) q2951 rfl dX8_faultOf_6 9 rfl ?_
      refine g_aload_n hC dX8_faultOf_9 0 rfl gRef_r 10 rfl ?_
      refine g_get (v := .int (nI lc)) hC cI7 hL_0 5 (Nat.le_of_ble_eq_true rfl) q2947 rfl dX8_faultOf_10 13 rfl ?_
      refine g_icmp_ge hC dX8_faultOf_13 32 rfl 16 rfl (fun c_3 => ?_) (fun c_3 => ?_)
      · replace c_3 : lc ≤ p1 := nn_le (by omega) (by omega) c_3
        refine g_bipush hC dX8_faultOf_32 kb_m5 34 rfl ?_
        exact g_iret (v := -5) hC (fun k9 hk9 => ⟨T, p1, (by rw [← ht]; exact (fltT_end c_3 _).symm), hL_0, hL_2, hLF, (by first | exact Nat.le_trans rqT_le (by omega) | omega), (by first | exact Nat.le_zero.mp hk9 | omega)⟩) dX8_faultOf_34 (Nat.le_of_ble_eq_true rfl) (Nat.le_of_ble_eq_true rfl)
      · replace c_3 : p1 < lc := nn_nle (by omega) (by omega) c_3
        refine g_aload_n hC dX8_faultOf_16 0 rfl gRef_r 17 rfl ?_
        refine g_aload_n hC dX8_faultOf_17 0 rfl gRef_r 18 rfl ?_
        refine g_get (v := .ref ato) hC cI7 hL_0 10 (Nat.le_of_ble_eq_true rfl) q2952 rfl dX8_faultOf_18 21 rfl ?_
        refine g_calli (g_V (As := [.ref ato]) (rest := []) hC mvX8_isRequest q3351 (gOf.of hC.K cI7 hL_0) (met_T_isRequest l G ML o av asp ak aik atx lc am mn aa p1 ato tx T hlc (by first | assumption | decide | omega | simp_all) hL_0 hL_1 hL_2) ⟨rfl, rfl⟩ ⟨(Nat.le_of_ble_eq_true rfl), (Nat.le_of_ble_eq_true rfl)⟩ rfl (Nat.le_of_ble_eq_true rfl) dX8_faultOf_21 rfl ⟨(Nat.le_of_ble_eq_true rfl), (Nat.le_of_ble_eq_true rfl)⟩) 0 (Nat.le_of_ble_eq_true rfl) 0 (Nat.le_of_ble_eq_true rfl) 24 rfl (fun r7 M4 k5 hp6 => ?_)
        obtain ⟨T_8, rfl, hc9, hc10, hF11, hq12, hk13⟩ := hp6
        refine g_if_ne hC dX8_faultOf_24 5 rfl 27 rfl (fun c_14 => ?_) (fun c_14 => ?_)
        · replace c_14 : (rqT (hereT tx lc) p1).2.isSome = true := bB_n0 c_14
          exact ih ((rqT (hereT tx lc) p1).1) T_8 (F - 1) M4 (rqT_in c_14).2 (by have := rqT_in c_14; omega) (by rw [← ht]; exact fltT_go (by omega) c_14 (by omega)) (by omega) hc9 (hF11 _ _ _ hL_1 (gno (gne_ao hL_1 hL_0) (gno (gne_t hL_1 hL_2 (by first | assumption | decide | simp | (intro h; simp at h))) gno0))) hc10 (hLF.trans (hF11.mono (by intro b t hb; simp at hb ⊢; first | done | (rcases hb with rfl | rfl | rfl | rfl <;> simp) | (simp [hb]; done))))
        · replace c_14 : (rqT (hereT tx lc) p1).2.isSome = false := bB_e0 c_14
          refine g_aload_n hC dX8_faultOf_27 0 rfl gRef_r 28 rfl ?_
          refine g_get (v := .int (nI ((rqT (hereT tx lc) p1).1))) hC cI7 hc9 9 (Nat.le_of_ble_eq_true rfl) q2951 rfl dX8_faultOf_28 31 rfl ?_
          exact g_iret (v := nI ((rqT (hereT tx lc) p1).1)) hC (fun k9 hk9 => ⟨T_8, (rqT (hereT tx lc) p1).1, (by rw [← ht]; exact fltT_no (by omega) (by rw [c_14]; exact Bool.false_ne_true) (by omega)), hc9, hc10, (hLF.trans (hF11.mono (by intro b t hb; simp at hb ⊢; first | done | (rcases hb with rfl | rfl | rfl | rfl <;> simp) | (simp [hb]; done)))), (by first | exact Nat.le_trans rqT_le (by omega) | omega), (by first | exact Nat.le_zero.mp hk9 | omega)⟩) dX8_faultOf_31 (Nat.le_of_ble_eq_true rfl) (Nat.le_of_ble_eq_true rfl)
  exact loop5 _ 0 to (lc + 1) M1 (by omega) (by omega) rfl (Nat.lt_succ_self _) hU2.1 (hU2.n (gne_ao hM_1 hM_0) hM_1) (hU2.n (gne_ao hM_2 hM_0) hM_2) (gFr.refl.up hU2 hM_0 (by simp))
