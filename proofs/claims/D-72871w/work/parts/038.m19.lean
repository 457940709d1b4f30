/-! the reference: requests of a text -/
set_option maxRecDepth 100000
def hxG (h : Nat → Int32) (q : Nat) : Nat → Nat → Int32 → Nat × Int32
  | 0, n, v => (n, v)
  | F + 1, n, v => if 0 ≤ hexF (h (q + n)) then hxG h q F (n + 1) (v <<< (4 &&& 31) ||| hexF (h (q + n))) else (n, v)
theorem hxG_go {h : Nat → Int32} {q n F : Nat} {v : Int32} (hF : 1 ≤ F) (hc : 0 ≤ hexF (h (q + n))) : hxG h q (F - 1) (n + 1) (v <<< (4 &&& 31) ||| hexF (h (q + n))) = hxG h q F n v := by
  obtain ⟨F, rfl⟩ : ∃ z, F = z + 1 := ⟨F - 1, by omega⟩
  simp only [hxG, if_pos hc, Nat.add_sub_cancel]
theorem hxG_no {h : Nat → Int32} {q n : Nat} {v : Int32} (hc : hexF (h (q + n)) < 0) : (F : Nat) → hxG h q F n v = (n, v)
  | 0 => rfl
  | F + 1 => by simp only [hxG, if_neg (Int32.not_le.mpr hc)]
abbrev rqR := Int32 × Int32 × Int32 × Int32 × Int32
def rqE (h : Nat → Int32) (q : Nat) (t : rqR) : Nat × Option rqR := if h q = 59 then (q + 1, some t) else (q, none)
def rqD (h : Nat → Int32) (q : Nat) (no id : Int32) : Nat × Option rqR :=
  if h q = 82 then (if 0 ≤ h (q + 1) - 48 ∧ h (q + 1) - 48 ≤ 4 then rqE h (q + 2) (no, id, 1, h (q + 1) - 48, 0) else (q + 1, none))
  else if (hxG h q 8 0 0).1 % 2 = 1 then (q + (hxG h q 8 0 0).1, none) else rqE h (q + (hxG h q 8 0 0).1) (no, id, 0, nI ((hxG h q 8 0 0).1 / 2), (hxG h q 8 0 0).2)
def idT (h : Nat → Int32) (q : Nat) : Int32 := 16 * (16 * (0 + hexF (h q)) + hexF (h (q + 1))) + hexF (h (q + 2))
def rqT (h : Nat → Int32) (q : Nat) : Nat × Option rqR :=
  if 0 ≤ h q - 48 ∧ h q - 48 ≤ 3 then
    (if h (q + 1) = 58 then
      (if hexF (h (q + 2)) < 0 then (q + 2, none) else if hexF (h (q + 2)) ≤ 7 then
        (if hexF (h (q + 3)) < 0 then (q + 3, none) else
          (if hexF (h (q + 4)) < 0 then (q + 4, none) else
            (if h (q + 5) = 35 then rqD h (q + 6) (h q - 48) (idT h (q + 2)) else (q + 5, none))))
        else (q + 2, none))
      else (q + 1, none))
    else (q, none)
set_option maxHeartbeats 4000000 in
theorem met_T_isRequest (l : Launch) (G : gG) (M : gM) (o : Nat) (av : Nat) (asp : Nat) (ak : Nat) (aik : Nat) (atx : Nat) (lc : Nat) (am : Nat) (mn : Int32) (aa : Nat) (pc_ : Nat) (ato : Nat) (tx : Nat → Int32) (to : Nat → Int32) (hlc : lc ≤ 120) (hpc : pc_ ≤ 120) (hM_0 : M o = some ((1, 0), .inr (7, [.ref av, .ref asp, .ref ak, .ref aik, .ref atx, .int (nI lc), .ref am, .int mn, .ref aa, .int (nI pc_), .ref ato]))) (hM_1 : M atx = some ((1, 5), .inl (gcs G 0, 120, .inl tx))) (hM_2 : M ato = some ((1, 8), .inl (gcs G 0, 5, .inl to))) : Met l yX8_isRequest (ws_ yX8_isRequest cX8_isRequest 4 (some .boolean)) ({ frames := 2, cells := 0, slots := 0, locals := 42 }) (gPc G [.ref o, .ref ato] M) (gQi G (fun r9 M9 k9 => ∃ T : Nat → Int32, r9 = (bI ((rqT (hereT tx lc) pc_).2.isSome)) ∧ M9 o = some ((1, 0), .inr (7, [.ref av, .ref asp, .ref ak, .ref aik, .ref atx, .int (nI lc), .ref am, .int mn, .ref aa, .int (nI ((rqT (hereT tx lc) pc_).1)), .ref ato])) ∧ M9 ato = some ((1, 8), .inl (gcs G 0, 5, .inl T)) ∧ gFr (gL [o, ato]) M M9 ∧ (∀ t, (rqT (hereT tx lc) pc_).2 = some t → T 0 = t.1 ∧ T 1 = t.2.1 ∧ T 2 = t.2.2.1 ∧ T 3 = t.2.2.2.1 ∧ T 4 = t.2.2.2.2) ∧ k9 = 0)) 0 0 (gA G) := by
  refine gMet [(0, .ref o), (1, .ref ato)] (by decide) (Nat.le_of_ble_eq_true rfl) rfl ?_
  intro p e s m below meth c hC
  refine g_aload_n hC dX8_isRequest_0 1 rfl gRef_r 1 rfl ?_
  refine g_iconst hC dX8_isRequest_1 ki_0 2 rfl ?_
  refine g_aload_n hC dX8_isRequest_2 0 rfl gRef_r 3 rfl ?_
  refine g_calliP (g_V (As := []) (rest := [.int 0, .ref ato]) hC mvX8_here q3355 (gOf.of hC.K cI7 hM_0) (met_T_here l G M o av asp ak aik atx lc am mn aa pc_ ato tx hlc (by first | assumption | decide | omega | simp_all) hM_0 hM_1) ⟨rfl, rfl⟩ ⟨(Nat.le_of_ble_eq_true rfl), (Nat.le_of_ble_eq_true rfl)⟩ rfl (Nat.le_of_ble_eq_true rfl) dX8_isRequest_3 rfl ⟨(Nat.le_of_ble_eq_true rfl), (Nat.le_of_ble_eq_true rfl)⟩) 6 rfl 0 (Nat.le_of_ble_eq_true rfl) ?_
  refine g_bipush hC dX8_isRequest_6 kb_48 8 rfl ?_
  refine g_isub hC dX8_isRequest_8 9 rfl ?_
  refine g_iast hC hM_2 0 rfl (vp_in_nI (n := 0) (by first | decide | omega) (by first | decide | omega)) 0 (nI_clamp (n := 0) (by decide)) dX8_isRequest_9 10 rfl (fun M1 hU2 => ?_)
  obtain ⟨F3, eF4⟩ : ∃ z9, z9 = upd to 0 ((hereT tx lc pc_) - 48) := ⟨_, rfl⟩
  rw [← eF4] at hU2
  refine g_aload_n hC dX8_isRequest_10 1 rfl gRef_r 11 rfl ?_
  refine g_iconst hC dX8_isRequest_11 ki_0 12 rfl ?_
  refine g_iald (v := (hereT tx lc pc_) - 48) hC hU2.1 0 rfl (vp_in_nI (n := 0) (by first | decide | omega) (by first | decide | omega)) ((congrArg F3 (nI_clamp (n := 0) (by decide))).trans (by rw [eF4]; exact pk_us)) dX8_isRequest_12 13 rfl ?_
  refine g_iconst hC dX8_isRequest_13 ki_0 14 rfl ?_
  refine g_iconst hC dX8_isRequest_14 ki_3 15 rfl ?_
  refine g_calliP (g_S (As := [.int ((hereT tx lc pc_) - 48), .int 0, .int 3]) (rest := []) hC msX8_in q2984 (met_T_in l G M1 ((hereT tx lc pc_) - 48) 0 3) ⟨rfl, rfl⟩ ⟨(Nat.le_of_ble_eq_true rfl), (Nat.le_of_ble_eq_true rfl)⟩ rfl (Nat.le_of_ble_eq_true rfl) dX8_isRequest_15 rfl ⟨(Nat.le_of_ble_eq_true rfl), (Nat.le_of_ble_eq_true rfl)⟩) 18 rfl 0 (Nat.le_of_ble_eq_true rfl) ?_
  refine g_if_ne hC dX8_isRequest_18 23 rfl 21 rfl (fun c_5 => ?_) (fun c_5 => ?_)
  · replace c_5 := bId_1 c_5
    refine g_aload_n hC dX8_isRequest_23 0 rfl gRef_r 24 rfl ?_
    refine g_dup hC dX8_isRequest_24 rfl 25 rfl ?_
    refine g_get (v := .int (nI pc_)) hC cI7 (hU2.n (gne_oa hM_0 hM_2) hM_0) 9 (Nat.le_of_ble_eq_true rfl) q2951 rfl dX8_isRequest_25 28 rfl ?_
    refine g_iconst hC dX8_isRequest_28 ki_1 29 rfl ?_
    refine g_iadd hC dX8_isRequest_29 30 rfl ?_
    refine g_topi (y := nI (pc_ + 1)) (nI_a (a := pc_) (b := 1) (c := (pc_ + 1)) (by omega)) ?_
    refine g_put hC cI7 (hU2.n (gne_oa hM_0 hM_2) hM_0) 9 (Nat.le_of_ble_eq_true rfl) q2951 rfl rfl rfl (Nat.le_of_ble_eq_true rfl) dX8_isRequest_30 (fs' := [.ref av, .ref asp, .ref ak, .ref aik, .ref atx, .int (nI lc), .ref am, .int mn, .ref aa, .int (nI (pc_ + 1)), .ref ato]) rfl 33 rfl (fun M6 hU7 => ?_)
    refine g_aload_n hC dX8_isRequest_33 0 rfl gRef_r 34 rfl ?_
    refine g_calliP (g_V (As := []) (rest := []) hC mvX8_here q3355 (gOf.of hC.K cI7 hU7.1) (met_T_here l G M6 o av asp ak aik atx lc am mn aa (pc_ + 1) ato tx hlc (by first | assumption | decide | omega | simp_all) hU7.1 (hU7.n (gne_ao (hU2.n (gne_t hM_1 hM_2 (by first | assumption | decide | simp | (intro h; simp at h))) hM_1) (hU2.n (gne_oa hM_0 hM_2) hM_0)) (hU2.n (gne_t hM_1 hM_2 (by first | assumption | decide | simp | (intro h; simp at h))) hM_1))) ⟨rfl, rfl⟩ ⟨(Nat.le_of_ble_eq_true rfl), (Nat.le_of_ble_eq_true rfl)⟩ rfl (Nat.le_of_ble_eq_true rfl) dX8_isRequest_34 rfl ⟨(Nat.le_of_ble_eq_true rfl), (Nat.le_of_ble_eq_true rfl)⟩) 37 rfl 0 (Nat.le_of_ble_eq_true rfl) ?_
    refine g_bipush hC dX8_isRequest_37 kb_58 39 rfl ?_
    refine g_icmp_eq hC dX8_isRequest_39 44 rfl 42 rfl (fun c_8 => ?_) (fun c_8 => ?_)
    · refine g_aload_n hC dX8_isRequest_44 0 rfl gRef_r 45 rfl ?_
      refine g_dup hC dX8_isRequest_45 rfl 46 rfl ?_
      refine g_get (v := .int (nI (pc_ + 1))) hC cI7 hU7.1 9 (Nat.le_of_ble_eq_true rfl) q2951 rfl dX8_isRequest_46 49 rfl ?_
      refine g_iconst hC dX8_isRequest_49 ki_1 50 rfl ?_
      refine g_iadd hC dX8_isRequest_50 51 rfl ?_
      refine g_topi (y := nI (pc_ + 2)) (nI_a (a := (pc_ + 1)) (b := 1) (c := (pc_ + 2)) (by omega)) ?_
      refine g_put hC cI7 hU7.1 9 (Nat.le_of_ble_eq_true rfl) q2951 rfl rfl rfl (Nat.le_of_ble_eq_true rfl) dX8_isRequest_51 (fs' := [.ref av, .ref asp, .ref ak, .ref aik, .ref atx, .int (nI lc), .ref am, .int mn, .ref aa, .int (nI (pc_ + 2)), .ref ato]) rfl 54 rfl (fun M9 hU10 => ?_)
      have hH11 := (hU10.n (gne_ao (hU7.n (gne_ao hU2.1 (hU2.n (gne_oa hM_0 hM_2) hM_0)) hU2.1) hU7.1) (hU7.n (gne_ao hU2.1 (hU2.n (gne_oa hM_0 hM_2) hM_0)) hU2.1))
      have hH12 := (hU10.n (gne_ao (hU7.n (gne_ao (hU2.n (gne_t hM_1 hM_2 (by first | assumption | decide | simp | (intro h; simp at h))) hM_1) (hU2.n (gne_oa hM_0 hM_2) hM_0)) (hU2.n (gne_t hM_1 hM_2 (by first | assumption | decide | simp | (intro h; simp at h))) hM_1)) hU7.1) (hU7.n (gne_ao (hU2.n (gne_t hM_1 hM_2 (by first | assumption | decide | simp | (intro h; simp at h))) hM_1) (hU2.n (gne_oa hM_0 hM_2) hM_0)) (hU2.n (gne_t hM_1 hM_2 (by first | assumption | decide | simp | (intro h; simp at h))) hM_1)))
      refine g_aload_n hC dX8_isRequest_54 1 rfl gRef_r 55 rfl ?_
      refine g_iconst hC dX8_isRequest_55 ki_1 56 rfl ?_
      refine g_iconst hC dX8_isRequest_56 ki_0 57 rfl ?_
      refine g_iast hC hH11 0 rfl (vp_in_nI (n := 1) (by first | decide | omega) (by first | decide | omega)) 1 (nI_clamp (n := 1) (by decide)) dX8_isRequest_57 58 rfl (fun M13 hU14 => ?_)
      obtain ⟨F15, eF16⟩ : ∃ z9, z9 = upd F3 1 0 := ⟨_, rfl⟩
      rw [← eF16] at hU14
      refine g_iconst hC dX8_isRequest_58 ki_0 59 rfl ?_
      refine g_istore_n hC dX8_isRequest_59 rfl (Nat.le_of_ble_eq_true rfl) [(2, .int 0), (0, .ref o), (1, .ref ato)] rfl 60 rfl ?_
      refine g_iload_n hC dX8_isRequest_60 0 rfl 61 rfl ?_
      refine g_iconst hC dX8_isRequest_61 ki_3 62 rfl ?_
      refine g_icmp_ge hC dX8_isRequest_62 116 rfl 65 rfl (fun c_17 => ?_) (fun c_17 => ?_)
      · exact absurd c_17 (by decide)
      · refine g_aload_n hC dX8_isRequest_65 1 rfl gRef_r 66 rfl ?_
        refine g_calliP (g_V (As := []) (rest := []) hC mvX8_here q3355 (gOf.of hC.K cI7 (hU14.n (gne_oa hU10.1 hH11) hU10.1)) (met_T_here l G M13 o av asp ak aik atx lc am mn aa (pc_ + 2) ato tx hlc (by first | assumption | decide | omega | simp_all) (hU14.n (gne_oa hU10.1 hH11) hU10.1) (hU14.n (gne_t hH12 hH11 (by first | assumption | decide | simp | (intro h; simp at h))) hH12)) ⟨rfl, rfl⟩ ⟨(Nat.le_of_ble_eq_true rfl), (Nat.le_of_ble_eq_true rfl)⟩ rfl (Nat.le_of_ble_eq_true rfl) dX8_isRequest_66 rfl ⟨(Nat.le_of_ble_eq_true rfl), (Nat.le_of_ble_eq_true rfl)⟩) 69 rfl 0 (Nat.le_of_ble_eq_true rfl) ?_
        refine g_calliP (g_S (As := [.int (hereT tx lc (pc_ + 2))]) (rest := []) hC msX8_hex q3359 (met_T_hex l G M13 (hereT tx lc (pc_ + 2))) ⟨rfl, rfl⟩ ⟨(Nat.le_of_ble_eq_true rfl), (Nat.le_of_ble_eq_true rfl)⟩ rfl (Nat.le_of_ble_eq_true rfl) dX8_isRequest_69 rfl ⟨(Nat.le_of_ble_eq_true rfl), (Nat.le_of_ble_eq_true rfl)⟩) 72 rfl 0 (Nat.le_of_ble_eq_true rfl) ?_
        refine g_istore_n hC dX8_isRequest_72 rfl (Nat.le_of_ble_eq_true rfl) [(3, .int (hexF (hereT tx lc (pc_ + 2)))), (2, .int 0), (0, .ref o), (1, .ref ato)] rfl 73 rfl ?_
        refine g_iload_n hC dX8_isRequest_73 0 rfl 74 rfl ?_
        refine g_if_lt hC dX8_isRequest_74 87 rfl 77 rfl (fun c_18 => ?_) (fun c_18 => ?_)
        · refine g_iconst hC dX8_isRequest_87 ki_0 88 rfl ?_
          have hq9 : rqT (hereT tx lc) pc_ = (pc_ + 2, none) := by simp only [rqT, rqD, rqE, show pc_ + 6 + 1 = pc_ + 7 from rfl, show pc_ + 6 + 2 = pc_ + 8 from rfl, show pc_ + 8 + 1 = pc_ + 9 from rfl, eq_true c_5, eq_true c_8, eq_true c_18, if_true, if_false, true_and, and_true, false_and, and_false, true_or, or_true, false_or, or_false, not_true_eq_false, not_false_eq_true, reduceIte, decide_true, decide_false, Bool.false_eq_true]
          exact g_zret (v := 0) hC (by decide) (fun k9 hk9 => ⟨F15, (by rw [hq9]; rfl), (by rw [(hU14.n (gne_oa hU10.1 hH11) hU10.1), hq9]), hU14.1, ((((gFr.refl.up hU2 hM_2 (by simp)).up hU7 (hU2.n (gne_oa hM_0 hM_2) hM_0) (by simp)).up hU10 hU7.1 (by simp)).up hU14 hH11 (by simp)), (fun t ht => absurd ((congrArg Prod.snd hq9).symm.trans ht) (by simp)), (by first | exact Nat.le_zero.mp hk9 | omega)⟩) dX8_isRequest_88 (Nat.le_of_ble_eq_true rfl) (Nat.le_of_ble_eq_true rfl)
        · refine g_iload_n hC dX8_isRequest_77 1 rfl 78 rfl ?_
          refine g_if_ne hC dX8_isRequest_78 89 rfl 81 rfl (fun c_19 => ?_) (fun c_19 => ?_)
          · exact absurd c_19 (by decide)
          · refine g_iload_n hC dX8_isRequest_81 0 rfl 82 rfl ?_
            refine g_bipush hC dX8_isRequest_82 kb_7 84 rfl ?_
            refine g_icmp_le hC dX8_isRequest_84 89 rfl 87 rfl (fun c_20 => ?_) (fun c_20 => ?_)
            · refine g_aload_n hC dX8_isRequest_89 3 rfl gRef_r 90 rfl ?_
              refine g_iconst hC dX8_isRequest_90 ki_1 91 rfl ?_
              refine g_bipush hC dX8_isRequest_91 kb_16 93 rfl ?_
              refine g_aload_n hC dX8_isRequest_93 3 rfl gRef_r 94 rfl ?_
              refine g_iconst hC dX8_isRequest_94 ki_1 95 rfl ?_
              refine g_iald (v := 0) hC hU14.1 0 rfl (vp_in_nI (n := 1) (by first | decide | omega) (by first | decide | omega)) ((congrArg F15 (nI_clamp (n := 1) (by decide))).trans (by rw [eF16]; exact pk_us)) dX8_isRequest_95 96 rfl ?_
              refine g_imul hC dX8_isRequest_96 97 rfl ?_
              refine g_topi (y := 0) (nI_m (a := 16) (b := 0) (c := 0) (by omega)) ?_
              refine g_iload_n hC dX8_isRequest_97 0 rfl 98 rfl ?_
              refine g_iadd hC dX8_isRequest_98 99 rfl ?_
              refine g_iast hC hU14.1 0 rfl (vp_in_nI (n := 1) (by first | decide | omega) (by first | decide | omega)) 1 (nI_clamp (n := 1) (by decide)) dX8_isRequest_99 100 rfl (fun M21 hU22 => ?_)
              obtain ⟨F23, eF24⟩ : ∃ z9, z9 = upd F15 1 (0 + (hexF (hereT tx lc (pc_ + 2)))) := ⟨_, rfl⟩
              rw [← eF24] at hU22
              refine g_aload_n hC dX8_isRequest_100 2 rfl gRef_r 101 rfl ?_
              refine g_dup hC dX8_isRequest_101 rfl 102 rfl ?_
              refine g_get (v := .int (nI (pc_ + 2))) hC cI7 (hU22.n (gne_oa (hU14.n (gne_oa hU10.1 hH11) hU10.1) hU14.1) (hU14.n (gne_oa hU10.1 hH11) hU10.1)) 9 (Nat.le_of_ble_eq_true rfl) q2951 rfl dX8_isRequest_102 105 rfl ?_
              refine g_iconst hC dX8_isRequest_105 ki_1 106 rfl ?_
              refine g_iadd hC dX8_isRequest_106 107 rfl ?_
              refine g_topi (y := nI (pc_ + 3)) (nI_a (a := (pc_ + 2)) (b := 1) (c := (pc_ + 3)) (by omega)) ?_
              refine g_put hC cI7 (hU22.n (gne_oa (hU14.n (gne_oa hU10.1 hH11) hU10.1) hU14.1) (hU14.n (gne_oa hU10.1 hH11) hU10.1)) 9 (Nat.le_of_ble_eq_true rfl) q2951 rfl rfl rfl (Nat.le_of_ble_eq_true rfl) dX8_isRequest_107 (fs' := [.ref av, .ref asp, .ref ak, .ref aik, .ref atx, .int (nI lc), .ref am, .int mn, .ref aa, .int (nI (pc_ + 3)), .ref ato]) rfl 110 rfl (fun M25 hU26 => ?_)
              refine g_iinc hC dX8_isRequest_110 1 rfl (v := 1) (by rw [ki_1]; exact nI_a (a := 0) (b := 1) (c := 1) (by omega)) (Nat.le_of_ble_eq_true rfl) [(2, .int 1), (3, .int (hexF (hereT tx lc (pc_ + 2)))), (0, .ref o), (1, .ref ato)] rfl 113 rfl ?_
              refine g_goto hC dX8_isRequest_113 60 rfl ?_
              refine g_iload_n hC dX8_isRequest_60 0 rfl 61 rfl ?_
              refine g_iconst hC dX8_isRequest_61 ki_3 62 rfl ?_
              refine g_icmp_ge hC dX8_isRequest_62 116 rfl 65 rfl (fun c_27 => ?_) (fun c_27 => ?_)
              · exact absurd c_27 (by decide)
              · refine g_aload_n hC dX8_isRequest_65 2 rfl gRef_r 66 rfl ?_
                refine g_calliP (g_V (As := []) (rest := []) hC mvX8_here q3355 (gOf.of hC.K cI7 hU26.1) (met_T_here l G M25 o av asp ak aik atx lc am mn aa (pc_ + 3) ato tx hlc (by first | assumption | decide | omega | simp_all) hU26.1 (hU26.n (gne_ao (hU22.n (gne_t (hU14.n (gne_t hH12 hH11 (by first | assumption | decide | simp | (intro h; simp at h))) hH12) hU14.1 (by first | assumption | decide | simp | (intro h; simp at h))) (hU14.n (gne_t hH12 hH11 (by first | assumption | decide | simp | (intro h; simp at h))) hH12)) (hU22.n (gne_oa (hU14.n (gne_oa hU10.1 hH11) hU10.1) hU14.1) (hU14.n (gne_oa hU10.1 hH11) hU10.1))) (hU22.n (gne_t (hU14.n (gne_t hH12 hH11 (by first | assumption | decide | simp | (intro h; simp at h))) hH12) hU14.1 (by first | assumption | decide | simp | (intro h; simp at h))) (hU14.n (gne_t hH12 hH11 (by first | assumption | decide | simp | (intro h; simp at h))) hH12)))) ⟨rfl, rfl⟩ ⟨(Nat.le_of_ble_eq_true rfl), (Nat.le_of_ble_eq_true rfl)⟩ rfl (Nat.le_of_ble_eq_true rfl) dX8_isRequest_66 rfl ⟨(Nat.le_of_ble_eq_true rfl), (Nat.le_of_ble_eq_true rfl)⟩) 69 rfl 0 (Nat.le_of_ble_eq_true rfl) ?_
                refine g_calliP (g_S (As := [.int (hereT tx lc (pc_ + 3))]) (rest := []) hC msX8_hex q3359 (met_T_hex l G M25 (hereT tx lc (pc_ + 3))) ⟨rfl, rfl⟩ ⟨(Nat.le_of_ble_eq_true rfl), (Nat.le_of_ble_eq_true rfl)⟩ rfl (Nat.le_of_ble_eq_true rfl) dX8_isRequest_69 rfl ⟨(Nat.le_of_ble_eq_true rfl), (Nat.le_of_ble_eq_true rfl)⟩) 72 rfl 0 (Nat.le_of_ble_eq_true rfl) ?_
                refine g_istore_n hC dX8_isRequest_72 rfl (Nat.le_of_ble_eq_true rfl) [(3, .int (hexF (hereT tx lc (pc_ + 3)))), (2, .int 1), (0, .ref o), (1, .ref ato)] rfl 73 rfl ?_
                refine g_iload_n hC dX8_isRequest_73 0 rfl 74 rfl ?_
                refine g_if_lt hC dX8_isRequest_74 87 rfl 77 rfl (fun c_28 => ?_) (fun c_28 => ?_)
                · refine g_iconst hC dX8_isRequest_87 ki_0 88 rfl ?_
                  have hq9 : rqT (hereT tx lc) pc_ = (pc_ + 3, none) := by simp only [rqT, rqD, rqE, show pc_ + 6 + 1 = pc_ + 7 from rfl, show pc_ + 6 + 2 = pc_ + 8 from rfl, show pc_ + 8 + 1 = pc_ + 9 from rfl, eq_true c_5, eq_true c_8, eq_false c_18, eq_true c_20, eq_true c_28, if_true, if_false, true_and, and_true, false_and, and_false, true_or, or_true, false_or, or_false, not_true_eq_false, not_false_eq_true, reduceIte, decide_true, decide_false, Bool.false_eq_true]
                  exact g_zret (v := 0) hC (by decide) (fun k9 hk9 => ⟨F23, (by rw [hq9]; rfl), (by rw [hU26.1, hq9]), (hU26.n (gne_ao hU22.1 (hU22.n (gne_oa (hU14.n (gne_oa hU10.1 hH11) hU10.1) hU14.1) (hU14.n (gne_oa hU10.1 hH11) hU10.1))) hU22.1), ((((((gFr.refl.up hU2 hM_2 (by simp)).up hU7 (hU2.n (gne_oa hM_0 hM_2) hM_0) (by simp)).up hU10 hU7.1 (by simp)).up hU14 hH11 (by simp)).up hU22 hU14.1 (by simp)).up hU26 (hU22.n (gne_oa (hU14.n (gne_oa hU10.1 hH11) hU10.1) hU14.1) (hU14.n (gne_oa hU10.1 hH11) hU10.1)) (by simp)), (fun t ht => absurd ((congrArg Prod.snd hq9).symm.trans ht) (by simp)), (by first | exact Nat.le_zero.mp hk9 | omega)⟩) dX8_isRequest_88 (Nat.le_of_ble_eq_true rfl) (Nat.le_of_ble_eq_true rfl)
                · refine g_iload_n hC dX8_isRequest_77 1 rfl 78 rfl ?_
                  refine g_if_ne hC dX8_isRequest_78 89 rfl 81 rfl (fun c_29 => ?_) (fun c_29 => ?_)
                  · refine g_aload_n hC dX8_isRequest_89 3 rfl gRef_r 90 rfl ?_
                    refine g_iconst hC dX8_isRequest_90 ki_1 91 rfl ?_
                    refine g_bipush hC dX8_isRequest_91 kb_16 93 rfl ?_
                    refine g_aload_n hC dX8_isRequest_93 3 rfl gRef_r 94 rfl ?_
                    refine g_iconst hC dX8_isRequest_94 ki_1 95 rfl ?_
                    refine g_iald (v := 0 + (hexF (hereT tx lc (pc_ + 2)))) hC (hU26.n (gne_ao hU22.1 (hU22.n (gne_oa (hU14.n (gne_oa hU10.1 hH11) hU10.1) hU14.1) (hU14.n (gne_oa hU10.1 hH11) hU10.1))) hU22.1) 0 rfl (vp_in_nI (n := 1) (by first | decide | omega) (by first | decide | omega)) ((congrArg F23 (nI_clamp (n := 1) (by decide))).trans (by rw [eF24]; exact pk_us)) dX8_isRequest_95 96 rfl ?_
                    refine g_imul hC dX8_isRequest_96 97 rfl ?_
                    refine g_iload_n hC dX8_isRequest_97 0 rfl 98 rfl ?_
                    refine g_iadd hC dX8_isRequest_98 99 rfl ?_
                    refine g_iast hC (hU26.n (gne_ao hU22.1 (hU22.n (gne_oa (hU14.n (gne_oa hU10.1 hH11) hU10.1) hU14.1) (hU14.n (gne_oa hU10.1 hH11) hU10.1))) hU22.1) 0 rfl (vp_in_nI (n := 1) (by first | decide | omega) (by first | decide | omega)) 1 (nI_clamp (n := 1) (by decide)) dX8_isRequest_99 100 rfl (fun M30 hU31 => ?_)
                    obtain ⟨F32, eF33⟩ : ∃ z9, z9 = upd F23 1 ((16 * (0 + (hexF (hereT tx lc (pc_ + 2))))) + (hexF (hereT tx lc (pc_ + 3)))) := ⟨_, rfl⟩
                    rw [← eF33] at hU31
                    have hH34 := (hU31.n (gne_oa hU26.1 (hU26.n (gne_ao hU22.1 (hU22.n (gne_oa (hU14.n (gne_oa hU10.1 hH11) hU10.1) hU14.1) (hU14.n (gne_oa hU10.1 hH11) hU10.1))) hU22.1)) hU26.1)
                    have hH35 := (hU31.n (gne_t (hU26.n (gne_ao (hU22.n (gne_t (hU14.n (gne_t hH12 hH11 (by first | assumption | decide | simp | (intro h; simp at h))) hH12) hU14.1 (by first | assumption | decide | simp | (intro h; simp at h))) (hU14.n (gne_t hH12 hH11 (by first | assumption | decide | simp | (intro h; simp at h))) hH12)) (hU22.n (gne_oa (hU14.n (gne_oa hU10.1 hH11) hU10.1) hU14.1) (hU14.n (gne_oa hU10.1 hH11) hU10.1))) (hU22.n (gne_t (hU14.n (gne_t hH12 hH11 (by first | assumption | decide | simp | (intro h; simp at h))) hH12) hU14.1 (by first | assumption | decide | simp | (intro h; simp at h))) (hU14.n (gne_t hH12 hH11 (by first | assumption | decide | simp | (intro h; simp at h))) hH12))) (hU26.n (gne_ao hU22.1 (hU22.n (gne_oa (hU14.n (gne_oa hU10.1 hH11) hU10.1) hU14.1) (hU14.n (gne_oa hU10.1 hH11) hU10.1))) hU22.1) (by first | assumption | decide | simp | (intro h; simp at h))) (hU26.n (gne_ao (hU22.n (gne_t (hU14.n (gne_t hH12 hH11 (by first | assumption | decide | simp | (intro h; simp at h))) hH12) hU14.1 (by first | assumption | decide | simp | (intro h; simp at h))) (hU14.n (gne_t hH12 hH11 (by first | assumption | decide | simp | (intro h; simp at h))) hH12)) (hU22.n (gne_oa (hU14.n (gne_oa hU10.1 hH11) hU10.1) hU14.1) (hU14.n (gne_oa hU10.1 hH11) hU10.1))) (hU22.n (gne_t (hU14.n (gne_t hH12 hH11 (by first | assumption | decide | simp | (intro h; simp at h))) hH12) hU14.1 (by first | assumption | decide | simp | (intro h; simp at h))) (hU14.n (gne_t hH12 hH11 (by first | assumption | decide | simp | (intro h; simp at h))) hH12))))
                    refine g_aload_n hC dX8_isRequest_100 2 rfl gRef_r 101 rfl ?_
                    refine g_dup hC dX8_isRequest_101 rfl 102 rfl ?_
                    refine g_get (v := .int (nI (pc_ + 3))) hC cI7 hH34 9 (Nat.le_of_ble_eq_true rfl) q2951 rfl dX8_isRequest_102 105 rfl ?_
                    refine g_iconst hC dX8_isRequest_105 ki_1 106 rfl ?_
                    refine g_iadd hC dX8_isRequest_106 107 rfl ?_
                    refine g_topi (y := nI (pc_ + 4)) (nI_a (a := (pc_ + 3)) (b := 1) (c := (pc_ + 4)) (by omega)) ?_
                    refine g_put hC cI7 hH34 9 (Nat.le_of_ble_eq_true rfl) q2951 rfl rfl rfl (Nat.le_of_ble_eq_true rfl) dX8_isRequest_107 (fs' := [.ref av, .ref asp, .ref ak, .ref aik, .ref atx, .int (nI lc), .ref am, .int mn, .ref aa, .int (nI (pc_ + 4)), .ref ato]) rfl 110 rfl (fun M36 hU37 => ?_)
                    refine g_iinc hC dX8_isRequest_110 1 rfl (v := 2) (by rw [ki_1]; exact nI_a (a := 1) (b := 1) (c := 2) (by omega)) (Nat.le_of_ble_eq_true rfl) [(2, .int 2), (3, .int (hexF (hereT tx lc (pc_ + 3)))), (0, .ref o), (1, .ref ato)] rfl 113 rfl ?_
                    refine g_goto hC dX8_isRequest_113 60 rfl ?_
                    refine g_iload_n hC dX8_isRequest_60 0 rfl 61 rfl ?_
                    refine g_iconst hC dX8_isRequest_61 ki_3 62 rfl ?_
                    refine g_icmp_ge hC dX8_isRequest_62 116 rfl 65 rfl (fun c_38 => ?_) (fun c_38 => ?_)
                    · exact absurd c_38 (by decide)
                    · refine g_aload_n hC dX8_isRequest_65 2 rfl gRef_r 66 rfl ?_
                      refine g_calliP (g_V (As := []) (rest := []) hC mvX8_here q3355 (gOf.of hC.K cI7 hU37.1) (met_T_here l G M36 o av asp ak aik atx lc am mn aa (pc_ + 4) ato tx hlc (by first | assumption | decide | omega | simp_all) hU37.1 (hU37.n (gne_ao hH35 hH34) hH35)) ⟨rfl, rfl⟩ ⟨(Nat.le_of_ble_eq_true rfl), (Nat.le_of_ble_eq_true rfl)⟩ rfl (Nat.le_of_ble_eq_true rfl) dX8_isRequest_66 rfl ⟨(Nat.le_of_ble_eq_true rfl), (Nat.le_of_ble_eq_true rfl)⟩) 69 rfl 0 (Nat.le_of_ble_eq_true rfl) ?_
                      refine g_calliP (g_S (As := [.int (hereT tx lc (pc_ + 4))]) (rest := []) hC msX8_hex q3359 (met_T_hex l G M36 (hereT tx lc (pc_ + 4))) ⟨rfl, rfl⟩ ⟨(Nat.le_of_ble_eq_true rfl), (Nat.le_of_ble_eq_true rfl)⟩ rfl (Nat.le_of_ble_eq_true rfl) dX8_isRequest_69 rfl ⟨(Nat.le_of_ble_eq_true rfl), (Nat.le_of_ble_eq_true rfl)⟩) 72 rfl 0 (Nat.le_of_ble_eq_true rfl) ?_
                      refine g_istore_n hC dX8_isRequest_72 rfl (Nat.le_of_ble_eq_true rfl) [(3, .int (hexF (hereT tx lc (pc_ + 4)))), (2, .int 2), (0, .ref o), (1, .ref ato)] rfl 73 rfl ?_
                      refine g_iload_n hC dX8_isRequest_73 0 rfl 74 rfl ?_
                      refine g_if_lt hC dX8_isRequest_74 87 rfl 77 rfl (fun c_39 => ?_) (fun c_39 => ?_)
                      · refine g_iconst hC dX8_isRequest_87 ki_0 88 rfl ?_
                        have hq9 : rqT (hereT tx lc) pc_ = (pc_ + 4, none) := by simp only [rqT, rqD, rqE, show pc_ + 6 + 1 = pc_ + 7 from rfl, show pc_ + 6 + 2 = pc_ + 8 from rfl, show pc_ + 8 + 1 = pc_ + 9 from rfl, eq_true c_5, eq_true c_8, eq_false c_18, eq_true c_20, eq_false c_28, eq_true c_39, if_true, if_false, true_and, and_true, false_and, and_false, true_or, or_true, false_or, or_false, not_true_eq_false, not_false_eq_true, reduceIte, decide_true, decide_false, Bool.false_eq_true]
                        exact g_zret (v := 0) hC (by decide) (fun k9 hk9 => ⟨F32, (by rw [hq9]; rfl), (by rw [hU37.1, hq9]), (hU37.n (gne_ao hU31.1 hH34) hU31.1), ((((((((gFr.refl.up hU2 hM_2 (by simp)).up hU7 (hU2.n (gne_oa hM_0 hM_2) hM_0) (by simp)).up hU10 hU7.1 (by simp)).up hU14 hH11 (by simp)).up hU22 hU14.1 (by simp)).up hU26 (hU22.n (gne_oa (hU14.n (gne_oa hU10.1 hH11) hU10.1) hU14.1) (hU14.n (gne_oa hU10.1 hH11) hU10.1)) (by simp)).up hU31 (hU26.n (gne_ao hU22.1 (hU22.n (gne_oa (hU14.n (gne_oa hU10.1 hH11) hU10.1) hU14.1) (hU14.n (gne_oa hU10.1 hH11) hU10.1))) hU22.1) (by simp)).up hU37 hH34 (by simp)), (fun t ht => absurd ((congrArg Prod.snd hq9).symm.trans ht) (by simp)), (by first | exact Nat.le_zero.mp hk9 | omega)⟩) dX8_isRequest_88 (Nat.le_of_ble_eq_true rfl) (Nat.le_of_ble_eq_true rfl)
                      · refine g_iload_n hC dX8_isRequest_77 1 rfl 78 rfl ?_
                        refine g_if_ne hC dX8_isRequest_78 89 rfl 81 rfl (fun c_40 => ?_) (fun c_40 => ?_)
                        · refine g_aload_n hC dX8_isRequest_89 3 rfl gRef_r 90 rfl ?_
                          refine g_iconst hC dX8_isRequest_90 ki_1 91 rfl ?_
                          refine g_bipush hC dX8_isRequest_91 kb_16 93 rfl ?_
                          refine g_aload_n hC dX8_isRequest_93 3 rfl gRef_r 94 rfl ?_
                          refine g_iconst hC dX8_isRequest_94 ki_1 95 rfl ?_
                          refine g_iald (v := (16 * (0 + (hexF (hereT tx lc (pc_ + 2))))) + (hexF (hereT tx lc (pc_ + 3)))) hC (hU37.n (gne_ao hU31.1 hH34) hU31.1) 0 rfl (vp_in_nI (n := 1) (by first | decide | omega) (by first | decide | omega)) ((congrArg F32 (nI_clamp (n := 1) (by decide))).trans (by rw [eF33]; exact pk_us)) dX8_isRequest_95 96 rfl ?_
                          refine g_imul hC dX8_isRequest_96 97 rfl ?_
                          refine g_iload_n hC dX8_isRequest_97 0 rfl 98 rfl ?_
                          refine g_iadd hC dX8_isRequest_98 99 rfl ?_
                          refine g_iast hC (hU37.n (gne_ao hU31.1 hH34) hU31.1) 0 rfl (vp_in_nI (n := 1) (by first | decide | omega) (by first | decide | omega)) 1 (nI_clamp (n := 1) (by decide)) dX8_isRequest_99 100 rfl (fun M41 hU42 => ?_)
                          obtain ⟨F43, eF44⟩ : ∃ z9, z9 = upd F32 1 ((16 * ((16 * (0 + (hexF (hereT tx lc (pc_ + 2))))) + (hexF (hereT tx lc (pc_ + 3))))) + (hexF (hereT tx lc (pc_ + 4)))) := ⟨_, rfl⟩
                          rw [← eF44] at hU42
                          refine g_aload_n hC dX8_isRequest_100 2 rfl gRef_r 101 rfl ?_
                          refine g_dup hC dX8_isRequest_101 rfl 102 rfl ?_
                          refine g_get (v := .int (nI (pc_ + 4))) hC cI7 (hU42.n (gne_oa hU37.1 (hU37.n (gne_ao hU31.1 hH34) hU31.1)) hU37.1) 9 (Nat.le_of_ble_eq_true rfl) q2951 rfl dX8_isRequest_102 105 rfl ?_
                          refine g_iconst hC dX8_isRequest_105 ki_1 106 rfl ?_
                          refine g_iadd hC dX8_isRequest_106 107 rfl ?_
                          refine g_topi (y := nI (pc_ + 5)) (nI_a (a := (pc_ + 4)) (b := 1) (c := (pc_ + 5)) (by omega)) ?_
                          refine g_put hC cI7 (hU42.n (gne_oa hU37.1 (hU37.n (gne_ao hU31.1 hH34) hU31.1)) hU37.1) 9 (Nat.le_of_ble_eq_true rfl) q2951 rfl rfl rfl (Nat.le_of_ble_eq_true rfl) dX8_isRequest_107 (fs' := [.ref av, .ref asp, .ref ak, .ref aik, .ref atx, .int (nI lc), .ref am, .int mn, .ref aa, .int (nI (pc_ + 5)), .ref ato]) rfl 110 rfl (fun M45 hU46 => ?_)
                          refine g_iinc hC dX8_isRequest_110 1 rfl (v := 3) (by rw [ki_1]; exact nI_a (a := 2) (b := 1) (c := 3) (by omega)) (Nat.le_of_ble_eq_true rfl) [(2, .int 3), (3, .int (hexF (hereT tx lc (pc_ + 4)))), (0, .ref o), (1, .ref ato)] rfl 113 rfl ?_
                          refine g_goto hC dX8_isRequest_113 60 rfl ?_
                          refine g_iload_n hC dX8_isRequest_60 0 rfl 61 rfl ?_
                          refine g_iconst hC dX8_isRequest_61 ki_3 62 rfl ?_
                          refine g_icmp_ge hC dX8_isRequest_62 116 rfl 65 rfl (fun c_47 => ?_) (fun c_47 => ?_)
                          · refine g_aload_n hC dX8_isRequest_116 2 rfl gRef_r 117 rfl ?_
                            refine g_calliP (g_V (As := []) (rest := []) hC mvX8_here q3355 (gOf.of hC.K cI7 hU46.1) (met_T_here l G M45 o av asp ak aik atx lc am mn aa (pc_ + 5) ato tx hlc (by first | assumption | decide | omega | simp_all) hU46.1 (hU46.n (gne_ao (hU42.n (gne_t (hU37.n (gne_ao hH35 hH34) hH35) (hU37.n (gne_ao hU31.1 hH34) hU31.1) (by first | assumption | decide | simp | (intro h; simp at h))) (hU37.n (gne_ao hH35 hH34) hH35)) (hU42.n (gne_oa hU37.1 (hU37.n (gne_ao hU31.1 hH34) hU31.1)) hU37.1)) (hU42.n (gne_t (hU37.n (gne_ao hH35 hH34) hH35) (hU37.n (gne_ao hU31.1 hH34) hU31.1) (by first | assumption | decide | simp | (intro h; simp at h))) (hU37.n (gne_ao hH35 hH34) hH35)))) ⟨rfl, rfl⟩ ⟨(Nat.le_of_ble_eq_true rfl), (Nat.le_of_ble_eq_true rfl)⟩ rfl (Nat.le_of_ble_eq_true rfl) dX8_isRequest_117 rfl ⟨(Nat.le_of_ble_eq_true rfl), (Nat.le_of_ble_eq_true rfl)⟩) 120 rfl 0 (Nat.le_of_ble_eq_true rfl) ?_
                            refine g_bipush hC dX8_isRequest_120 kb_35 122 rfl ?_
                            refine g_icmp_eq hC dX8_isRequest_122 127 rfl 125 rfl (fun c_48 => ?_) (fun c_48 => ?_)
                            · refine g_aload_n hC dX8_isRequest_127 2 rfl gRef_r 128 rfl ?_
                              refine g_dup hC dX8_isRequest_128 rfl 129 rfl ?_
                              refine g_get (v := .int (nI (pc_ + 5))) hC cI7 hU46.1 9 (Nat.le_of_ble_eq_true rfl) q2951 rfl dX8_isRequest_129 132 rfl ?_
                              refine g_iconst hC dX8_isRequest_132 ki_1 133 rfl ?_
                              refine g_iadd hC dX8_isRequest_133 134 rfl ?_
                              refine g_topi (y := nI (pc_ + 6)) (nI_a (a := (pc_ + 5)) (b := 1) (c := (pc_ + 6)) (by omega)) ?_
                              refine g_put hC cI7 hU46.1 9 (Nat.le_of_ble_eq_true rfl) q2951 rfl rfl rfl (Nat.le_of_ble_eq_true rfl) dX8_isRequest_134 (fs' := [.ref av, .ref asp, .ref ak, .ref aik, .ref atx, .int (nI lc), .ref am, .int mn, .ref aa, .int (nI (pc_ + 6)), .ref ato]) rfl 137 rfl (fun M49 hU50 => ?_)
                              have hH51 := (hU50.n (gne_ao (hU46.n (gne_ao hU42.1 (hU42.n (gne_oa hU37.1 (hU37.n (gne_ao hU31.1 hH34) hU31.1)) hU37.1)) hU42.1) hU46.1) (hU46.n (gne_ao hU42.1 (hU42.n (gne_oa hU37.1 (hU37.n (gne_ao hU31.1 hH34) hU31.1)) hU37.1)) hU42.1))
                              have hH52 := (hU50.n (gne_ao (hU46.n (gne_ao (hU42.n (gne_t (hU37.n (gne_ao hH35 hH34) hH35) (hU37.n (gne_ao hU31.1 hH34) hU31.1) (by first | assumption | decide | simp | (intro h; simp at h))) (hU37.n (gne_ao hH35 hH34) hH35)) (hU42.n (gne_oa hU37.1 (hU37.n (gne_ao hU31.1 hH34) hU31.1)) hU37.1)) (hU42.n (gne_t (hU37.n (gne_ao hH35 hH34) hH35) (hU37.n (gne_ao hU31.1 hH34) hU31.1) (by first | assumption | decide | simp | (intro h; simp at h))) (hU37.n (gne_ao hH35 hH34) hH35))) hU46.1) (hU46.n (gne_ao (hU42.n (gne_t (hU37.n (gne_ao hH35 hH34) hH35) (hU37.n (gne_ao hU31.1 hH34) hU31.1) (by first | assumption | decide | simp | (intro h; simp at h))) (hU37.n (gne_ao hH35 hH34) hH35)) (hU42.n (gne_oa hU37.1 (hU37.n (gne_ao hU31.1 hH34) hU31.1)) hU37.1)) (hU42.n (gne_t (hU37.n (gne_ao hH35 hH34) hH35) (hU37.n (gne_ao hU31.1 hH34) hU31.1) (by first | assumption | decide | simp | (intro h; simp at h))) (hU37.n (gne_ao hH35 hH34) hH35))))
                              refine g_aload_n hC dX8_isRequest_137 3 rfl gRef_r 138 rfl ?_
                              refine g_iconst hC dX8_isRequest_138 ki_2 139 rfl ?_
                              refine g_aload_n hC dX8_isRequest_139 2 rfl gRef_r 140 rfl ?_
                              refine g_calliP (g_V (As := []) (rest := [.int 2, .ref ato]) hC mvX8_here q3355 (gOf.of hC.K cI7 hU50.1) (met_T_here l G M49 o av asp ak aik atx lc am mn aa (pc_ + 6) ato tx hlc (by first | assumption | decide | omega | simp_all) hU50.1 hH52) ⟨rfl, rfl⟩ ⟨(Nat.le_of_ble_eq_true rfl), (Nat.le_of_ble_eq_true rfl)⟩ rfl (Nat.le_of_ble_eq_true rfl) dX8_isRequest_140 rfl ⟨(Nat.le_of_ble_eq_true rfl), (Nat.le_of_ble_eq_true rfl)⟩) 143 rfl 0 (Nat.le_of_ble_eq_true rfl) ?_
                              refine g_bipush hC dX8_isRequest_143 kb_82 145 rfl ?_
                              refine g_icmp_ne hC dX8_isRequest_145 152 rfl 148 rfl (fun c_53 => ?_) (fun c_53 => ?_)
                              · refine g_iconst hC dX8_isRequest_152 ki_0 153 rfl ?_
                                refine g_iast hC hH51 0 rfl (vp_in_nI (n := 2) (by first | decide | omega) (by first | decide | omega)) 2 (nI_clamp (n := 2) (by decide)) dX8_isRequest_153 154 rfl (fun M54 hU55 => ?_)
                                obtain ⟨F56, eF57⟩ : ∃ z9, z9 = upd F43 2 0 := ⟨_, rfl⟩
                                rw [← eF57] at hU55
                                refine g_aload_n hC dX8_isRequest_154 3 rfl gRef_r 155 rfl ?_
                                refine g_iconst hC dX8_isRequest_155 ki_3 156 rfl ?_
                                refine g_iconst hC dX8_isRequest_156 ki_0 157 rfl ?_
                                refine g_iast hC hU55.1 0 rfl (vp_in_nI (n := 3) (by first | decide | omega) (by first | decide | omega)) 3 (nI_clamp (n := 3) (by decide)) dX8_isRequest_157 158 rfl (fun M58 hU59 => ?_)
                                obtain ⟨F60, eF61⟩ : ∃ z9, z9 = upd F56 3 0 := ⟨_, rfl⟩
                                rw [← eF61] at hU59
                                refine g_aload_n hC dX8_isRequest_158 3 rfl gRef_r 159 rfl ?_
                                refine g_iconst hC dX8_isRequest_159 ki_4 160 rfl ?_
                                refine g_iconst hC dX8_isRequest_160 ki_0 161 rfl ?_
                                refine g_iast hC hU59.1 0 rfl (vp_in_nI (n := 4) (by first | decide | omega) (by first | decide | omega)) 4 (nI_clamp (n := 4) (by decide)) dX8_isRequest_161 162 rfl (fun M62 hU63 => ?_)
                                obtain ⟨F64, eF65⟩ : ∃ z9, z9 = upd F60 4 0 := ⟨_, rfl⟩
                                rw [← eF65] at hU63
                                refine g_aload_n hC dX8_isRequest_162 3 rfl gRef_r 163 rfl ?_
                                refine g_iconst hC dX8_isRequest_163 ki_2 164 rfl ?_
                                refine g_iald (v := 0) hC hU63.1 0 rfl (vp_in_nI (n := 2) (by first | decide | omega) (by first | decide | omega)) ((congrArg F64 (nI_clamp (n := 2) (by decide))).trans (by rw [eF65, pk_un (by omega), eF61, pk_un (by omega), eF57]; exact pk_us)) dX8_isRequest_164 165 rfl ?_
                                refine g_iconst hC dX8_isRequest_165 ki_1 166 rfl ?_
                                refine g_icmp_ne hC dX8_isRequest_166 215 rfl 169 rfl (fun c_66 => ?_) (fun c_66 => ?_)
                                · refine g_iconst hC dX8_isRequest_215 ki_0 216 rfl ?_
                                  refine g_istore_n hC dX8_isRequest_216 rfl (Nat.le_of_ble_eq_true rfl) [(2, .int 0), (3, .int (hexF (hereT tx lc (pc_ + 4)))), (0, .ref o), (1, .ref ato)] rfl 217 rfl ?_
                                  have loop217 : ∀ (n9 : Nat) (n : Nat) (F : Nat → Int32) (ML : gM), (hn8 : n ≤ 8) → (hx : hxG (hereT tx lc) (pc_ + 6) (8 - n) n (F 4) = hxG (hereT tx lc) (pc_ + 6) 8 0 0) → (h0 : F 0 = hereT tx lc pc_ - 48) → (h1 : F 1 = idT (hereT tx lc) (pc_ + 2)) → (h2 : F 2 = 0) → 8 - n < n9 → (ML o = some ((1, 0), .inr (7, [.ref av, .ref asp, .ref ak, .ref aik, .ref atx, .int (nI lc), .ref am, .int mn, .ref aa, .int (nI (pc_ + 6 + n)), .ref ato]))) → (ML atx = some ((1, 5), .inl (gcs G 0, 120, .inl tx))) → (ML ato = some ((1, 8), .inl (gcs G 0, 5, .inl F))) → gFr (gL [o, ato]) M ML → gJ p l e ({ frames := 2, cells := 0, slots := 0, locals := 42 } : Room) s m ([.ref o, .ref ato] : List Value).toArray below meth c G 4 (MQ below (gQi G (fun r9 M9 k9 => ∃ T : Nat → Int32, r9 = (bI ((rqT (hereT tx lc) pc_).2.isSome)) ∧ M9 o = some ((1, 0), .inr (7, [.ref av, .ref asp, .ref ak, .ref aik, .ref atx, .int (nI lc), .ref am, .int mn, .ref aa, .int (nI ((rqT (hereT tx lc) pc_).1)), .ref ato])) ∧ M9 ato = some ((1, 8), .inl (gcs G 0, 5, .inl T)) ∧ gFr (gL [o, ato]) M M9 ∧ (∀ t, (rqT (hereT tx lc) pc_).2 = some t → T 0 = t.1 ∧ T 1 = t.2.1 ∧ T 2 = t.2.2.1 ∧ T 3 = t.2.2.2.1 ∧ T 4 = t.2.2.2.2) ∧ k9 = 0)) ([.ref o, .ref ato] : List Value).toArray s 0 0 (gA G)) 0 0 ML 217 [(0, .ref o), (1, .ref ato), (2, .int (nI n))] [] := by
                                    intro n9
                                    induction n9 with
                                    | zero => intro n F ML hn8 hx h0 h1 h2 hmu; exact absurd hmu (Nat.not_lt_zero _)
                                    | succ n9 ih =>
                                      intro n F ML hn8 hx h0 h1 h2 hmu hL_0 hL_1 hL_2 hLF
                                      refine g_iload_n hC dX8_isRequest_217 2 rfl 218 rfl ?_
                                      refine g_bipush hC dX8_isRequest_218 kb_8 220 rfl ?_
                                      refine g_icmp_ge hC dX8_isRequest_220 265 rfl 223 rfl (fun c_67 => ?_) (fun c_67 => ?_)
                                      · replace c_67 : 8 ≤ n := nn_le (by omega) (by omega) c_67
                                        have hr9 : hxG (hereT tx lc) (pc_ + 6) 8 0 0 = (n, F 4) := by rw [← hx, show 8 - n = 0 by omega]; rfl
                                        refine g_aload_n hC dX8_isRequest_265 1 rfl gRef_r 266 rfl ?_
                                        refine g_iconst hC dX8_isRequest_266 ki_3 267 rfl ?_
                                        refine g_iload_n hC dX8_isRequest_267 2 rfl 268 rfl ?_
                                        refine g_iconst hC dX8_isRequest_268 ki_2 269 rfl ?_
                                        refine g_idiv hC dX8_isRequest_269 (by decide) 270 rfl ?_
                                        obtain ⟨d68, ed69⟩ : ∃ z9, z9 = n / 2 := ⟨_, rfl⟩
                                        refine g_topi (y := nI d68) ((pk_div (a := n) (d := 2) (by omega) (by omega) (by omega)).trans (congrArg nI ed69.symm)) ?_
                                        refine g_iast hC hL_2 0 rfl (vp_in_nI (n := 3) (by first | decide | omega) (by first | decide | omega)) 3 (nI_clamp (n := 3) (by decide)) dX8_isRequest_270 271 rfl (fun M70 hU71 => ?_)
                                        obtain ⟨F72, eF73⟩ : ∃ z9, z9 = upd F 3 (nI d68) := ⟨_, rfl⟩
                                        rw [← eF73] at hU71
                                        refine g_iload_n hC dX8_isRequest_271 2 rfl 272 rfl ?_
                                        refine g_iconst hC dX8_isRequest_272 ki_2 273 rfl ?_
                                        refine g_irem hC dX8_isRequest_273 (by decide) 274 rfl ?_
                                        refine g_topi (y := nI (n % 2)) (pk_rem (a := n) (d := 2) (by omega) (by decide) (by decide)) ?_
                                        refine g_iconst hC dX8_isRequest_274 ki_1 275 rfl ?_
                                        refine g_icmp_ne hC dX8_isRequest_275 280 rfl 278 rfl (fun c_74 => ?_) (fun c_74 => ?_)
                                        · replace c_74 : ¬ (n % 2) = 1 := nn_neq (by omega) (by omega) c_74
                                          refine g_aload_n hC dX8_isRequest_280 0 rfl gRef_r 281 rfl ?_
                                          refine g_calliP (g_V (As := []) (rest := []) hC mvX8_here q3355 (gOf.of hC.K cI7 (hU71.n (gne_oa hL_0 hL_2) hL_0)) (met_T_here l G M70 o av asp ak aik atx lc am mn aa (pc_ + 6 + n) ato tx hlc (by first | assumption | decide | omega | simp_all) (hU71.n (gne_oa hL_0 hL_2) hL_0) (hU71.n (gne_t hL_1 hL_2 (by first | assumption | decide | simp | (intro h; simp at h))) hL_1)) ⟨rfl, rfl⟩ ⟨(Nat.le_of_ble_eq_true rfl), (Nat.le_of_ble_eq_true rfl)⟩ rfl (Nat.le_of_ble_eq_true rfl) dX8_isRequest_281 rfl ⟨(Nat.le_of_ble_eq_true rfl), (Nat.le_of_ble_eq_true rfl)⟩) 284 rfl 0 (Nat.le_of_ble_eq_true rfl) ?_
                                          refine g_bipush hC dX8_isRequest_284 kb_59 286 rfl ?_
                                          refine g_icmp_eq hC dX8_isRequest_286 291 rfl 289 rfl (fun c_75 => ?_) (fun c_75 => ?_)
                                          · refine g_aload_n hC dX8_isRequest_291 0 rfl gRef_r 292 rfl ?_
                                            refine g_dup hC dX8_isRequest_292 rfl 293 rfl ?_
                                            refine g_get (v := .int (nI (pc_ + 6 + n))) hC cI7 (hU71.n (gne_oa hL_0 hL_2) hL_0) 9 (Nat.le_of_ble_eq_true rfl) q2951 rfl dX8_isRequest_293 296 rfl ?_
                                            refine g_iconst hC dX8_isRequest_296 ki_1 297 rfl ?_
                                            refine g_iadd hC dX8_isRequest_297 298 rfl ?_
                                            refine g_topi (y := nI (pc_ + n + 7)) (nI_a (a := (pc_ + 6 + n)) (b := 1) (c := (pc_ + n + 7)) (by omega)) ?_
                                            refine g_put hC cI7 (hU71.n (gne_oa hL_0 hL_2) hL_0) 9 (Nat.le_of_ble_eq_true rfl) q2951 rfl rfl rfl (Nat.le_of_ble_eq_true rfl) dX8_isRequest_298 (fs' := [.ref av, .ref asp, .ref ak, .ref aik, .ref atx, .int (nI lc), .ref am, .int mn, .ref aa, .int (nI (pc_ + n + 7)), .ref ato]) rfl 301 rfl (fun M76 hU77 => ?_)
                                            refine g_iconst hC dX8_isRequest_301 ki_1 302 rfl ?_
                                            have hq9 : rqT (hereT tx lc) pc_ = (pc_ + n + 7, some (hereT tx lc pc_ - 48, idT (hereT tx lc) (pc_ + 2), 0, nI (n / 2), F 4)) := by simp only [rqT, rqD, rqE, hr9, show pc_ + 6 + 1 = pc_ + 7 from rfl, show pc_ + 6 + 2 = pc_ + 8 from rfl, show pc_ + 8 + 1 = pc_ + 9 from rfl, eq_true c_5, eq_true c_8, eq_false c_18, eq_true c_20, eq_false c_28, eq_false c_39, eq_true c_48, eq_false c_53, eq_false c_74, eq_true c_75, if_true, if_false, true_and, and_true, false_and, and_false, true_or, or_true, false_or, or_false, not_true_eq_false, not_false_eq_true, reduceIte, decide_true, decide_false, Bool.false_eq_true]; try rw [show pc_ + 6 + n + 1 = pc_ + n + 7 by omega]
                                            exact g_zret (v := 1) hC (by decide) (fun k9 hk9 => ⟨F72, (by rw [hq9]; rfl), (by rw [hU77.1, hq9]), (hU77.n (gne_ao hU71.1 (hU71.n (gne_oa hL_0 hL_2) hL_0)) hU71.1), ((hLF.up hU71 hL_2 (by simp)).up hU77 (hU71.n (gne_oa hL_0 hL_2) hL_0) (by simp)), (fun t ht => by cases Option.some.inj ((congrArg Prod.snd hq9).symm.trans ht); exact ⟨(by rw [eF73, pk_un (by omega)]; exact h0), (by rw [eF73, pk_un (by omega)]; exact h1), (by rw [eF73, pk_un (by omega)]; exact h2), (by rw [eF73, pk_us, ed69]), (by rw [eF73, pk_un (by omega)])⟩), (by first | exact Nat.le_zero.mp hk9 | omega)⟩) dX8_isRequest_302 (Nat.le_of_ble_eq_true rfl) (Nat.le_of_ble_eq_true rfl)
                                          · refine g_iconst hC dX8_isRequest_289 ki_0 290 rfl ?_
                                            have hq9 : rqT (hereT tx lc) pc_ = (pc_ + 6 + n, none) := by simp only [rqT, rqD, rqE, hr9, show pc_ + 6 + 1 = pc_ + 7 from rfl, show pc_ + 6 + 2 = pc_ + 8 from rfl, show pc_ + 8 + 1 = pc_ + 9 from rfl, eq_true c_5, eq_true c_8, eq_false c_18, eq_true c_20, eq_false c_28, eq_false c_39, eq_true c_48, eq_false c_53, eq_false c_74, eq_false c_75, if_true, if_false, true_and, and_true, false_and, and_false, true_or, or_true, false_or, or_false, not_true_eq_false, not_false_eq_true, reduceIte, decide_true, decide_false, Bool.false_eq_true]; try rw [show pc_ + 6 + n + 1 = pc_ + n + 7 by omega]
                                            exact g_zret (v := 0) hC (by decide) (fun k9 hk9 => ⟨F72, (by rw [hq9]; rfl), (by rw [(hU71.n (gne_oa hL_0 hL_2) hL_0), hq9]), hU71.1, (hLF.up hU71 hL_2 (by simp)), (fun t ht => absurd ((congrArg Prod.snd hq9).symm.trans ht) (by simp)), (by first | exact Nat.le_zero.mp hk9 | omega)⟩) dX8_isRequest_290 (Nat.le_of_ble_eq_true rfl) (Nat.le_of_ble_eq_true rfl)
                                        · replace c_74 : (n % 2) = 1 := nn_eq (by omega) (by omega) c_74
                                          refine g_iconst hC dX8_isRequest_278 ki_0 279 rfl ?_
                                          have hq9 : rqT (hereT tx lc) pc_ = (pc_ + 6 + n, none) := by simp only [rqT, rqD, rqE, hr9, show pc_ + 6 + 1 = pc_ + 7 from rfl, show pc_ + 6 + 2 = pc_ + 8 from rfl, show pc_ + 8 + 1 = pc_ + 9 from rfl, eq_true c_5, eq_true c_8, eq_false c_18, eq_true c_20, eq_false c_28, eq_false c_39, eq_true c_48, eq_false c_53, eq_true c_74, if_true, if_false, true_and, and_true, false_and, and_false, true_or, or_true, false_or, or_false, not_true_eq_false, not_false_eq_true, reduceIte, decide_true, decide_false, Bool.false_eq_true]; try rw [show pc_ + 6 + n + 1 = pc_ + n + 7 by omega]
                                          exact g_zret (v := 0) hC (by decide) (fun k9 hk9 => ⟨F72, (by rw [hq9]; rfl), (by rw [(hU71.n (gne_oa hL_0 hL_2) hL_0), hq9]), hU71.1, (hLF.up hU71 hL_2 (by simp)), (fun t ht => absurd ((congrArg Prod.snd hq9).symm.trans ht) (by simp)), (by first | exact Nat.le_zero.mp hk9 | omega)⟩) dX8_isRequest_279 (Nat.le_of_ble_eq_true rfl) (Nat.le_of_ble_eq_true rfl)
                                      · replace c_67 : n < 8 := nn_nle (by omega) (by omega) c_67
                                        refine g_aload_n hC dX8_isRequest_223 0 rfl gRef_r 224 rfl ?_
                                        refine g_calliP (g_V (As := []) (rest := []) hC mvX8_here q3355 (gOf.of hC.K cI7 hL_0) (met_T_here l G ML o av asp ak aik atx lc am mn aa (pc_ + 6 + n) ato tx hlc (by first | assumption | decide | omega | simp_all) hL_0 hL_1) ⟨rfl, rfl⟩ ⟨(Nat.le_of_ble_eq_true rfl), (Nat.le_of_ble_eq_true rfl)⟩ rfl (Nat.le_of_ble_eq_true rfl) dX8_isRequest_224 rfl ⟨(Nat.le_of_ble_eq_true rfl), (Nat.le_of_ble_eq_true rfl)⟩) 227 rfl 0 (Nat.le_of_ble_eq_true rfl) ?_
                                        refine g_calliP (g_S (As := [.int (hereT tx lc (pc_ + 6 + n))]) (rest := []) hC msX8_hex q3359 (met_T_hex l G ML (hereT tx lc (pc_ + 6 + n))) ⟨rfl, rfl⟩ ⟨(Nat.le_of_ble_eq_true rfl), (Nat.le_of_ble_eq_true rfl)⟩ rfl (Nat.le_of_ble_eq_true rfl) dX8_isRequest_227 rfl ⟨(Nat.le_of_ble_eq_true rfl), (Nat.le_of_ble_eq_true rfl)⟩) 230 rfl 0 (Nat.le_of_ble_eq_true rfl) ?_
                                        refine g_if_lt hC dX8_isRequest_230 265 rfl 233 rfl (fun c_78 => ?_) (fun c_78 => ?_)
                                        · have hr9 : hxG (hereT tx lc) (pc_ + 6) 8 0 0 = (n, F 4) := by rw [← hx]; exact hxG_no c_78 _
                                          refine g_aload_n hC dX8_isRequest_265 1 rfl gRef_r 266 rfl ?_
                                          refine g_iconst hC dX8_isRequest_266 ki_3 267 rfl ?_
                                          refine g_iload_n hC dX8_isRequest_267 2 rfl 268 rfl ?_
                                          refine g_iconst hC dX8_isRequest_268 ki_2 269 rfl ?_
                                          refine g_idiv hC dX8_isRequest_269 (by decide) 270 rfl ?_
                                          obtain ⟨d79, ed80⟩ : ∃ z9, z9 = n / 2 := ⟨_, rfl⟩
                                          refine g_topi (y := nI d79) ((pk_div (a := n) (d := 2) (by omega) (by omega) (by omega)).trans (congrArg nI ed80.symm)) ?_
                                          refine g_iast hC hL_2 0 rfl (vp_in_nI (n := 3) (by first | decide | omega) (by first | decide | omega)) 3 (nI_clamp (n := 3) (by decide)) dX8_isRequest_270 271 rfl (fun M81 hU82 => ?_)
                                          obtain ⟨F83, eF84⟩ : ∃ z9, z9 = upd F 3 (nI d79) := ⟨_, rfl⟩
                                          rw [← eF84] at hU82
                                          refine g_iload_n hC dX8_isRequest_271 2 rfl 272 rfl ?_
                                          refine g_iconst hC dX8_isRequest_272 ki_2 273 rfl ?_
                                          refine g_irem hC dX8_isRequest_273 (by decide) 274 rfl ?_
                                          refine g_topi (y := nI (n % 2)) (pk_rem (a := n) (d := 2) (by omega) (by decide) (by decide)) ?_
                                          refine g_iconst hC dX8_isRequest_274 ki_1 275 rfl ?_
                                          refine g_icmp_ne hC dX8_isRequest_275 280 rfl 278 rfl (fun c_85 => ?_) (fun c_85 => ?_)
                                          · replace c_85 : ¬ (n % 2) = 1 := nn_neq (by omega) (by omega) c_85
                                            refine g_aload_n hC dX8_isRequest_280 0 rfl gRef_r 281 rfl ?_
                                            refine g_calliP (g_V (As := []) (rest := []) hC mvX8_here q3355 (gOf.of hC.K cI7 (hU82.n (gne_oa hL_0 hL_2) hL_0)) (met_T_here l G M81 o av asp ak aik atx lc am mn aa (pc_ + 6 + n) ato tx hlc (by first | assumption | decide | omega | simp_all) (hU82.n (gne_oa hL_0 hL_2) hL_0) (hU82.n (gne_t hL_1 hL_2 (by first | assumption | decide | simp | (intro h; simp at h))) hL_1)) ⟨rfl, rfl⟩ ⟨(Nat.le_of_ble_eq_true rfl), (Nat.le_of_ble_eq_true rfl)⟩ rfl (Nat.le_of_ble_eq_true rfl) dX8_isRequest_281 rfl ⟨(Nat.le_of_ble_eq_true rfl), (Nat.le_of_ble_eq_true rfl)⟩) 284 rfl 0 (Nat.le_of_ble_eq_true rfl) ?_
                                            refine g_bipush hC dX8_isRequest_284 kb_59 286 rfl ?_
                                            refine g_icmp_eq hC dX8_isRequest_286 291 rfl 289 rfl (fun c_86 => ?_) (fun c_86 => ?_)
                                            · refine g_aload_n hC dX8_isRequest_291 0 rfl gRef_r 292 rfl ?_
                                              refine g_dup hC dX8_isRequest_292 rfl 293 rfl ?_
                                              refine g_get (v := .int (nI (pc_ + 6 + n))) hC cI7 (hU82.n (gne_oa hL_0 hL_2) hL_0) 9 (Nat.le_of_ble_eq_true rfl) q2951 rfl dX8_isRequest_293 296 rfl ?_
                                              refine g_iconst hC dX8_isRequest_296 ki_1 297 rfl ?_
                                              refine g_iadd hC dX8_isRequest_297 298 rfl ?_
                                              refine g_topi (y := nI (pc_ + n + 7)) (nI_a (a := (pc_ + 6 + n)) (b := 1) (c := (pc_ + n + 7)) (by omega)) ?_
                                              refine g_put hC cI7 (hU82.n (gne_oa hL_0 hL_2) hL_0) 9 (Nat.le_of_ble_eq_true rfl) q2951 rfl rfl rfl (Nat.le_of_ble_eq_true rfl) dX8_isRequest_298 (fs' := [.ref av, .ref asp, .ref ak, .ref aik, .ref atx, .int (nI lc), .ref am, .int mn, .ref aa, .int (nI (pc_ + n + 7)), .ref ato]) rfl 301 rfl (fun M87 hU88 => ?_)
                                              refine g_iconst hC dX8_isRequest_301 ki_1 302 rfl ?_
                                              have hq9 : rqT (hereT tx lc) pc_ = (pc_ + n + 7, some (hereT tx lc pc_ - 48, idT (hereT tx lc) (pc_ + 2), 0, nI (n / 2), F 4)) := by simp only [rqT, rqD, rqE, hr9, show pc_ + 6 + 1 = pc_ + 7 from rfl, show pc_ + 6 + 2 = pc_ + 8 from rfl, show pc_ + 8 + 1 = pc_ + 9 from rfl, eq_true c_5, eq_true c_8, eq_false c_18, eq_true c_20, eq_false c_28, eq_false c_39, eq_true c_48, eq_false c_53, eq_true c_78, eq_false c_85, eq_true c_86, if_true, if_false, true_and, and_true, false_and, and_false, true_or, or_true, false_or, or_false, not_true_eq_false, not_false_eq_true, reduceIte, decide_true, decide_false, Bool.false_eq_true]; try rw [show pc_ + 6 + n + 1 = pc_ + n + 7 by omega]
                                              exact g_zret (v := 1) hC (by decide) (fun k9 hk9 => ⟨F83, (by rw [hq9]; rfl), (by rw [hU88.1, hq9]), (hU88.n (gne_ao hU82.1 (hU82.n (gne_oa hL_0 hL_2) hL_0)) hU82.1), ((hLF.up hU82 hL_2 (by simp)).up hU88 (hU82.n (gne_oa hL_0 hL_2) hL_0) (by simp)), (fun t ht => by cases Option.some.inj ((congrArg Prod.snd hq9).symm.trans ht); exact ⟨(by rw [eF84, pk_un (by omega)]; exact h0), (by rw [eF84, pk_un (by omega)]; exact h1), (by rw [eF84, pk_un (by omega)]; exact h2), (by rw [eF84, pk_us, ed80]), (by rw [eF84, pk_un (by omega)])⟩), (by first | exact Nat.le_zero.mp hk9 | omega)⟩) dX8_isRequest_302 (Nat.le_of_ble_eq_true rfl) (Nat.le_of_ble_eq_true rfl)
                                            · refine g_iconst hC dX8_isRequest_289 ki_0 290 rfl ?_
                                              have hq9 : rqT (hereT tx lc) pc_ = (pc_ + 6 + n, none) := by simp only [rqT, rqD, rqE, hr9, show pc_ + 6 + 1 = pc_ + 7 from rfl, show pc_ + 6 + 2 = pc_ + 8 from rfl, show pc_ + 8 + 1 = pc_ + 9 from rfl, eq_true c_5, eq_true c_8, eq_false c_18, eq_true c_20, eq_false c_28, eq_false c_39, eq_true c_48, eq_false c_53, eq_true c_78, eq_false c_85, eq_false c_86, if_true, if_false, true_and, and_true, false_and, and_false, true_or, or_true, false_or, or_false, not_true_eq_false, not_false_eq_true, reduceIte, decide_true, decide_false, Bool.false_eq_true]; try rw [show pc_ + 6 + n + 1 = pc_ + n + 7 by omega]
                                              exact g_zret (v := 0) hC (by decide) (fun k9 hk9 => ⟨F83, (by rw [hq9]; rfl), (by rw [(hU82.n (gne_oa hL_0 hL_2) hL_0), hq9]), hU82.1, (hLF.up hU82 hL_2 (by simp)), (fun t ht => absurd ((congrArg Prod.snd hq9).symm.trans ht) (by simp)), (by first | exact Nat.le_zero.mp hk9 | omega)⟩) dX8_isRequest_290 (Nat.le_of_ble_eq_true rfl) (Nat.le_of_ble_eq_true rfl)
                                          · replace c_85 : (n % 2) = 1 := nn_eq (by omega) (by omega) c_85
                                            refine g_iconst hC dX8_isRequest_278 ki_0 279 rfl ?_
                                            have hq9 : rqT (hereT tx lc) pc_ = (pc_ + 6 + n, none) := by simp only [rqT, rqD, rqE, hr9, show pc_ + 6 + 1 = pc_ + 7 from rfl, show pc_ + 6 + 2 = pc_ + 8 from rfl, show pc_ + 8 + 1 = pc_ + 9 from rfl, eq_true c_5, eq_true c_8, eq_false c_18, eq_true c_20, eq_false c_28, eq_false c_39, eq_true c_48, eq_false c_53, eq_true c_78, eq_true c_85, if_true, if_false, true_and, and_true, false_and, and_false, true_or, or_true, false_or, or_false, not_true_eq_false, not_false_eq_true, reduceIte, decide_true, decide_false, Bool.false_eq_true]; try rw [show pc_ + 6 + n + 1 = pc_ + n + 7 by omega]
                                            exact g_zret (v := 0) hC (by decide) (fun k9 hk9 => ⟨F83, (by rw [hq9]; rfl), (by rw [(hU82.n (gne_oa hL_0 hL_2) hL_0), hq9]), hU82.1, (hLF.up hU82 hL_2 (by simp)), (fun t ht => absurd ((congrArg Prod.snd hq9).symm.trans ht) (by simp)), (by first | exact Nat.le_zero.mp hk9 | omega)⟩) dX8_isRequest_279 (Nat.le_of_ble_eq_true rfl) (Nat.le_of_ble_eq_true rfl)
                                        · refine g_aload_n hC dX8_isRequest_233 1 rfl gRef_r 234 rfl ?_
                                          refine g_iconst hC dX8_isRequest_234 ki_4 235 rfl ?_
                                          refine g_aload_n hC dX8_isRequest_235 1 rfl gRef_r 236 rfl ?_
                                          refine g_iconst hC dX8_isRequest_236 ki_4 237 rfl ?_
                                          refine g_iald (v := F 4) hC hL_2 0 rfl (vp_in_nI (n := 4) (by first | decide | omega) (by first | decide | omega)) ((congrArg F (nI_clamp (n := 4) (by decide))).trans rfl) dX8_isRequest_237 238 rfl ?_
                                          refine g_iconst hC dX8_isRequest_238 ki_4 239 rfl ?_
                                          refine g_ishl hC dX8_isRequest_239 240 rfl ?_
                                          refine g_aload_n hC dX8_isRequest_240 0 rfl gRef_r 241 rfl ?_
                                          refine g_calliP (g_V (As := []) (rest := [.int ((F 4) <<< (4 &&& 31)), .int 4, .ref ato]) hC mvX8_here q3355 (gOf.of hC.K cI7 hL_0) (met_T_here l G ML o av asp ak aik atx lc am mn aa (pc_ + 6 + n) ato tx hlc (by first | assumption | decide | omega | simp_all) hL_0 hL_1) ⟨rfl, rfl⟩ ⟨(Nat.le_of_ble_eq_true rfl), (Nat.le_of_ble_eq_true rfl)⟩ rfl (Nat.le_of_ble_eq_true rfl) dX8_isRequest_241 rfl ⟨(Nat.le_of_ble_eq_true rfl), (Nat.le_of_ble_eq_true rfl)⟩) 244 rfl 0 (Nat.le_of_ble_eq_true rfl) ?_
                                          refine g_calliP (g_S (As := [.int (hereT tx lc (pc_ + 6 + n))]) (rest := [.int ((F 4) <<< (4 &&& 31)), .int 4, .ref ato]) hC msX8_hex q3359 (met_T_hex l G ML (hereT tx lc (pc_ + 6 + n))) ⟨rfl, rfl⟩ ⟨(Nat.le_of_ble_eq_true rfl), (Nat.le_of_ble_eq_true rfl)⟩ rfl (Nat.le_of_ble_eq_true rfl) dX8_isRequest_244 rfl ⟨(Nat.le_of_ble_eq_true rfl), (Nat.le_of_ble_eq_true rfl)⟩) 247 rfl 0 (Nat.le_of_ble_eq_true rfl) ?_
                                          refine g_ior hC dX8_isRequest_247 248 rfl ?_
                                          refine g_iast hC hL_2 0 rfl (vp_in_nI (n := 4) (by first | decide | omega) (by first | decide | omega)) 4 (nI_clamp (n := 4) (by decide)) dX8_isRequest_248 249 rfl (fun M89 hU90 => ?_)
                                          obtain ⟨F91, eF92⟩ : ∃ z9, z9 = upd F 4 (((F 4) <<< (4 &&& 31)) ||| (hexF (hereT tx lc (pc_ + 6 + n)))) := ⟨_, rfl⟩
                                          rw [← eF92] at hU90
                                          refine g_aload_n hC dX8_isRequest_249 0 rfl gRef_r 250 rfl ?_
                                          refine g_dup hC dX8_isRequest_250 rfl 251 rfl ?_
                                          refine g_get (v := .int (nI (pc_ + 6 + n))) hC cI7 (hU90.n (gne_oa hL_0 hL_2) hL_0) 9 (Nat.le_of_ble_eq_true rfl) q2951 rfl dX8_isRequest_251 254 rfl ?_
                                          refine g_iconst hC dX8_isRequest_254 ki_1 255 rfl ?_
                                          refine g_iadd hC dX8_isRequest_255 256 rfl ?_
                                          refine g_topi (y := nI (pc_ + n + 7)) (nI_a (a := (pc_ + 6 + n)) (b := 1) (c := (pc_ + n + 7)) (by omega)) ?_
                                          refine g_put hC cI7 (hU90.n (gne_oa hL_0 hL_2) hL_0) 9 (Nat.le_of_ble_eq_true rfl) q2951 rfl rfl rfl (Nat.le_of_ble_eq_true rfl) dX8_isRequest_256 (fs' := [.ref av, .ref asp, .ref ak, .ref aik, .ref atx, .int (nI lc), .ref am, .int mn, .ref aa, .int (nI (pc_ + n + 7)), .ref ato]) rfl 259 rfl (fun M93 hU94 => ?_)
                                          have hO9 := hU94.1
                                          rw [show pc_ + n + 7 = pc_ + 6 + (n + 1) by omega] at hO9
                                          refine g_iinc hC dX8_isRequest_259 2 rfl (v := nI (n + 1)) (by rw [ki_1]; exact nI_a (a := n) (b := 1) (c := (n + 1)) (by omega)) (Nat.le_of_ble_eq_true rfl) [(2, .int (nI (n + 1))), (0, .ref o), (1, .ref ato)] rfl 262 rfl ?_
                                          refine g_goto hC dX8_isRequest_262 217 rfl ?_
                                          refine gJ.sub (M' := M93) [1, 2, 0] rfl ?_
                                          exact ih (n + 1) F91 M93 (by omega) (by rw [eF92, pk_us, ← hx, show 8 - (n + 1) = 8 - n - 1 by omega]; exact hxG_go (by omega) (Int32.not_lt.mp c_78)) (by rw [eF92, pk_un (by omega)]; exact h0) (by rw [eF92, pk_un (by omega)]; exact h1) (by rw [eF92, pk_un (by omega)]; exact h2) (by omega) hO9 (hU94.n (gne_ao (hU90.n (gne_t hL_1 hL_2 (by first | assumption | decide | simp | (intro h; simp at h))) hL_1) (hU90.n (gne_oa hL_0 hL_2) hL_0)) (hU90.n (gne_t hL_1 hL_2 (by first | assumption | decide | simp | (intro h; simp at h))) hL_1)) (hU94.n (gne_ao hU90.1 (hU90.n (gne_oa hL_0 hL_2) hL_0)) hU90.1) ((hLF.up hU90 hL_2 (by simp)).up hU94 (hU90.n (gne_oa hL_0 hL_2) hL_0) (by simp))
                                  refine gJ.sub (M' := M62) [2, 3, 0] rfl ?_
                                  exact loop217 _ 0 F64 M62 (by omega) (by rw [show F64 4 = 0 by rw [eF65]; exact pk_us]) (by rw [eF65, pk_un (by omega), eF61, pk_un (by omega), eF57, pk_un (by omega), eF44, pk_un (by omega), eF33, pk_un (by omega), eF24, pk_un (by omega), eF16, pk_un (by omega), eF4]; exact pk_us) (by rw [eF65, pk_un (by omega), eF61, pk_un (by omega), eF57, pk_un (by omega), eF44]; exact pk_us) (by rw [eF65, pk_un (by omega), eF61, pk_un (by omega), eF57]; exact pk_us) (Nat.lt_succ_self _) (hU63.n (gne_oa (hU59.n (gne_oa (hU55.n (gne_oa hU50.1 hH51) hU50.1) hU55.1) (hU55.n (gne_oa hU50.1 hH51) hU50.1)) hU59.1) (hU59.n (gne_oa (hU55.n (gne_oa hU50.1 hH51) hU50.1) hU55.1) (hU55.n (gne_oa hU50.1 hH51) hU50.1))) (hU63.n (gne_t (hU59.n (gne_t (hU55.n (gne_t hH52 hH51 (by first | assumption | decide | simp | (intro h; simp at h))) hH52) hU55.1 (by first | assumption | decide | simp | (intro h; simp at h))) (hU55.n (gne_t hH52 hH51 (by first | assumption | decide | simp | (intro h; simp at h))) hH52)) hU59.1 (by first | assumption | decide | simp | (intro h; simp at h))) (hU59.n (gne_t (hU55.n (gne_t hH52 hH51 (by first | assumption | decide | simp | (intro h; simp at h))) hH52) hU55.1 (by first | assumption | decide | simp | (intro h; simp at h))) (hU55.n (gne_t hH52 hH51 (by first | assumption | decide | simp | (intro h; simp at h))) hH52))) hU63.1 ((((((((((((((gFr.refl.up hU2 hM_2 (by simp)).up hU7 (hU2.n (gne_oa hM_0 hM_2) hM_0) (by simp)).up hU10 hU7.1 (by simp)).up hU14 hH11 (by simp)).up hU22 hU14.1 (by simp)).up hU26 (hU22.n (gne_oa (hU14.n (gne_oa hU10.1 hH11) hU10.1) hU14.1) (hU14.n (gne_oa hU10.1 hH11) hU10.1)) (by simp)).up hU31 (hU26.n (gne_ao hU22.1 (hU22.n (gne_oa (hU14.n (gne_oa hU10.1 hH11) hU10.1) hU14.1) (hU14.n (gne_oa hU10.1 hH11) hU10.1))) hU22.1) (by simp)).up hU37 hH34 (by simp)).up hU42 (hU37.n (gne_ao hU31.1 hH34) hU31.1) (by simp)).up hU46 (hU42.n (gne_oa hU37.1 (hU37.n (gne_ao hU31.1 hH34) hU31.1)) hU37.1) (by simp)).up hU50 hU46.1 (by simp)).up hU55 hH51 (by simp)).up hU59 hU55.1 (by simp)).up hU63 hU59.1 (by simp))
                                · exact absurd c_66 (by decide)
                              · refine g_iconst hC dX8_isRequest_148 ki_1 149 rfl ?_
                                refine g_goto hC dX8_isRequest_149 153 rfl ?_
                                refine g_iast hC hH51 0 rfl (vp_in_nI (n := 2) (by first | decide | omega) (by first | decide | omega)) 2 (nI_clamp (n := 2) (by decide)) dX8_isRequest_153 154 rfl (fun M95 hU96 => ?_)
                                obtain ⟨F97, eF98⟩ : ∃ z9, z9 = upd F43 2 1 := ⟨_, rfl⟩
                                rw [← eF98] at hU96
                                refine g_aload_n hC dX8_isRequest_154 3 rfl gRef_r 155 rfl ?_
                                refine g_iconst hC dX8_isRequest_155 ki_3 156 rfl ?_
                                refine g_iconst hC dX8_isRequest_156 ki_0 157 rfl ?_
                                refine g_iast hC hU96.1 0 rfl (vp_in_nI (n := 3) (by first | decide | omega) (by first | decide | omega)) 3 (nI_clamp (n := 3) (by decide)) dX8_isRequest_157 158 rfl (fun M99 hU100 => ?_)
                                obtain ⟨F101, eF102⟩ : ∃ z9, z9 = upd F97 3 0 := ⟨_, rfl⟩
                                rw [← eF102] at hU100
                                refine g_aload_n hC dX8_isRequest_158 3 rfl gRef_r 159 rfl ?_
                                refine g_iconst hC dX8_isRequest_159 ki_4 160 rfl ?_
                                refine g_iconst hC dX8_isRequest_160 ki_0 161 rfl ?_
                                refine g_iast hC hU100.1 0 rfl (vp_in_nI (n := 4) (by first | decide | omega) (by first | decide | omega)) 4 (nI_clamp (n := 4) (by decide)) dX8_isRequest_161 162 rfl (fun M103 hU104 => ?_)
                                obtain ⟨F105, eF106⟩ : ∃ z9, z9 = upd F101 4 0 := ⟨_, rfl⟩
                                rw [← eF106] at hU104
                                refine g_aload_n hC dX8_isRequest_162 3 rfl gRef_r 163 rfl ?_
                                refine g_iconst hC dX8_isRequest_163 ki_2 164 rfl ?_
                                refine g_iald (v := 1) hC hU104.1 0 rfl (vp_in_nI (n := 2) (by first | decide | omega) (by first | decide | omega)) ((congrArg F105 (nI_clamp (n := 2) (by decide))).trans (by rw [eF106, pk_un (by omega), eF102, pk_un (by omega), eF98]; exact pk_us)) dX8_isRequest_164 165 rfl ?_
                                refine g_iconst hC dX8_isRequest_165 ki_1 166 rfl ?_
                                refine g_icmp_ne hC dX8_isRequest_166 215 rfl 169 rfl (fun c_107 => ?_) (fun c_107 => ?_)
                                · exact absurd c_107 (by decide)
                                · refine g_aload_n hC dX8_isRequest_169 2 rfl gRef_r 170 rfl ?_
                                  refine g_dup hC dX8_isRequest_170 rfl 171 rfl ?_
                                  refine g_get (v := .int (nI (pc_ + 6))) hC cI7 (hU104.n (gne_oa (hU100.n (gne_oa (hU96.n (gne_oa hU50.1 hH51) hU50.1) hU96.1) (hU96.n (gne_oa hU50.1 hH51) hU50.1)) hU100.1) (hU100.n (gne_oa (hU96.n (gne_oa hU50.1 hH51) hU50.1) hU96.1) (hU96.n (gne_oa hU50.1 hH51) hU50.1))) 9 (Nat.le_of_ble_eq_true rfl) q2951 rfl dX8_isRequest_171 174 rfl ?_
                                  refine g_iconst hC dX8_isRequest_174 ki_1 175 rfl ?_
                                  refine g_iadd hC dX8_isRequest_175 176 rfl ?_
                                  refine g_topi (y := nI (pc_ + 7)) (nI_a (a := (pc_ + 6)) (b := 1) (c := (pc_ + 7)) (by omega)) ?_
                                  refine g_put hC cI7 (hU104.n (gne_oa (hU100.n (gne_oa (hU96.n (gne_oa hU50.1 hH51) hU50.1) hU96.1) (hU96.n (gne_oa hU50.1 hH51) hU50.1)) hU100.1) (hU100.n (gne_oa (hU96.n (gne_oa hU50.1 hH51) hU50.1) hU96.1) (hU96.n (gne_oa hU50.1 hH51) hU50.1))) 9 (Nat.le_of_ble_eq_true rfl) q2951 rfl rfl rfl (Nat.le_of_ble_eq_true rfl) dX8_isRequest_176 (fs' := [.ref av, .ref asp, .ref ak, .ref aik, .ref atx, .int (nI lc), .ref am, .int mn, .ref aa, .int (nI (pc_ + 7)), .ref ato]) rfl 179 rfl (fun M108 hU109 => ?_)
                                  have hH110 := (hU109.n (gne_ao hU104.1 (hU104.n (gne_oa (hU100.n (gne_oa (hU96.n (gne_oa hU50.1 hH51) hU50.1) hU96.1) (hU96.n (gne_oa hU50.1 hH51) hU50.1)) hU100.1) (hU100.n (gne_oa (hU96.n (gne_oa hU50.1 hH51) hU50.1) hU96.1) (hU96.n (gne_oa hU50.1 hH51) hU50.1)))) hU104.1)
                                  have hH111 := (hU109.n (gne_ao (hU104.n (gne_t (hU100.n (gne_t (hU96.n (gne_t hH52 hH51 (by first | assumption | decide | simp | (intro h; simp at h))) hH52) hU96.1 (by first | assumption | decide | simp | (intro h; simp at h))) (hU96.n (gne_t hH52 hH51 (by first | assumption | decide | simp | (intro h; simp at h))) hH52)) hU100.1 (by first | assumption | decide | simp | (intro h; simp at h))) (hU100.n (gne_t (hU96.n (gne_t hH52 hH51 (by first | assumption | decide | simp | (intro h; simp at h))) hH52) hU96.1 (by first | assumption | decide | simp | (intro h; simp at h))) (hU96.n (gne_t hH52 hH51 (by first | assumption | decide | simp | (intro h; simp at h))) hH52))) (hU104.n (gne_oa (hU100.n (gne_oa (hU96.n (gne_oa hU50.1 hH51) hU50.1) hU96.1) (hU96.n (gne_oa hU50.1 hH51) hU50.1)) hU100.1) (hU100.n (gne_oa (hU96.n (gne_oa hU50.1 hH51) hU50.1) hU96.1) (hU96.n (gne_oa hU50.1 hH51) hU50.1)))) (hU104.n (gne_t (hU100.n (gne_t (hU96.n (gne_t hH52 hH51 (by first | assumption | decide | simp | (intro h; simp at h))) hH52) hU96.1 (by first | assumption | decide | simp | (intro h; simp at h))) (hU96.n (gne_t hH52 hH51 (by first | assumption | decide | simp | (intro h; simp at h))) hH52)) hU100.1 (by first | assumption | decide | simp | (intro h; simp at h))) (hU100.n (gne_t (hU96.n (gne_t hH52 hH51 (by first | assumption | decide | simp | (intro h; simp at h))) hH52) hU96.1 (by first | assumption | decide | simp | (intro h; simp at h))) (hU96.n (gne_t hH52 hH51 (by first | assumption | decide | simp | (intro h; simp at h))) hH52))))
                                  refine g_aload_n hC dX8_isRequest_179 3 rfl gRef_r 180 rfl ?_
                                  refine g_iconst hC dX8_isRequest_180 ki_3 181 rfl ?_
                                  refine g_aload_n hC dX8_isRequest_181 2 rfl gRef_r 182 rfl ?_
                                  refine g_calliP (g_V (As := []) (rest := [.int 3, .ref ato]) hC mvX8_here q3355 (gOf.of hC.K cI7 hU109.1) (met_T_here l G M108 o av asp ak aik atx lc am mn aa (pc_ + 7) ato tx hlc (by first | assumption | decide | omega | simp_all) hU109.1 hH111) ⟨rfl, rfl⟩ ⟨(Nat.le_of_ble_eq_true rfl), (Nat.le_of_ble_eq_true rfl)⟩ rfl (Nat.le_of_ble_eq_true rfl) dX8_isRequest_182 rfl ⟨(Nat.le_of_ble_eq_true rfl), (Nat.le_of_ble_eq_true rfl)⟩) 185 rfl 0 (Nat.le_of_ble_eq_true rfl) ?_
                                  refine g_bipush hC dX8_isRequest_185 kb_48 187 rfl ?_
                                  refine g_isub hC dX8_isRequest_187 188 rfl ?_
                                  refine g_iast hC hH110 0 rfl (vp_in_nI (n := 3) (by first | decide | omega) (by first | decide | omega)) 3 (nI_clamp (n := 3) (by decide)) dX8_isRequest_188 189 rfl (fun M112 hU113 => ?_)
                                  obtain ⟨F114, eF115⟩ : ∃ z9, z9 = upd F105 3 ((hereT tx lc (pc_ + 7)) - 48) := ⟨_, rfl⟩
                                  rw [← eF115] at hU113
                                  refine g_aload_n hC dX8_isRequest_189 3 rfl gRef_r 190 rfl ?_
                                  refine g_iconst hC dX8_isRequest_190 ki_3 191 rfl ?_
                                  refine g_iald (v := (hereT tx lc (pc_ + 7)) - 48) hC hU113.1 0 rfl (vp_in_nI (n := 3) (by first | decide | omega) (by first | decide | omega)) ((congrArg F114 (nI_clamp (n := 3) (by decide))).trans (by rw [eF115]; exact pk_us)) dX8_isRequest_191 192 rfl ?_
                                  refine g_iconst hC dX8_isRequest_192 ki_0 193 rfl ?_
                                  refine g_iconst hC dX8_isRequest_193 ki_4 194 rfl ?_
                                  refine g_calliP (g_S (As := [.int ((hereT tx lc (pc_ + 7)) - 48), .int 0, .int 4]) (rest := []) hC msX8_in q2984 (met_T_in l G M112 ((hereT tx lc (pc_ + 7)) - 48) 0 4) ⟨rfl, rfl⟩ ⟨(Nat.le_of_ble_eq_true rfl), (Nat.le_of_ble_eq_true rfl)⟩ rfl (Nat.le_of_ble_eq_true rfl) dX8_isRequest_194 rfl ⟨(Nat.le_of_ble_eq_true rfl), (Nat.le_of_ble_eq_true rfl)⟩) 197 rfl 0 (Nat.le_of_ble_eq_true rfl) ?_
                                  refine g_if_ne hC dX8_isRequest_197 202 rfl 200 rfl (fun c_116 => ?_) (fun c_116 => ?_)
                                  · replace c_116 := bId_1 c_116
                                    refine g_aload_n hC dX8_isRequest_202 2 rfl gRef_r 203 rfl ?_
                                    refine g_dup hC dX8_isRequest_203 rfl 204 rfl ?_
                                    refine g_get (v := .int (nI (pc_ + 7))) hC cI7 (hU113.n (gne_oa hU109.1 hH110) hU109.1) 9 (Nat.le_of_ble_eq_true rfl) q2951 rfl dX8_isRequest_204 207 rfl ?_
                                    refine g_iconst hC dX8_isRequest_207 ki_1 208 rfl ?_
                                    refine g_iadd hC dX8_isRequest_208 209 rfl ?_
                                    refine g_topi (y := nI (pc_ + 8)) (nI_a (a := (pc_ + 7)) (b := 1) (c := (pc_ + 8)) (by omega)) ?_
                                    refine g_put hC cI7 (hU113.n (gne_oa hU109.1 hH110) hU109.1) 9 (Nat.le_of_ble_eq_true rfl) q2951 rfl rfl rfl (Nat.le_of_ble_eq_true rfl) dX8_isRequest_209 (fs' := [.ref av, .ref asp, .ref ak, .ref aik, .ref atx, .int (nI lc), .ref am, .int mn, .ref aa, .int (nI (pc_ + 8)), .ref ato]) rfl 212 rfl (fun M117 hU118 => ?_)
                                    refine g_goto hC dX8_isRequest_212 280 rfl ?_
                                    refine g_aload_n hC dX8_isRequest_280 2 rfl gRef_r 281 rfl ?_
                                    refine g_calliP (g_V (As := []) (rest := []) hC mvX8_here q3355 (gOf.of hC.K cI7 hU118.1) (met_T_here l G M117 o av asp ak aik atx lc am mn aa (pc_ + 8) ato tx hlc (by first | assumption | decide | omega | simp_all) hU118.1 (hU118.n (gne_ao (hU113.n (gne_t hH111 hH110 (by first | assumption | decide | simp | (intro h; simp at h))) hH111) (hU113.n (gne_oa hU109.1 hH110) hU109.1)) (hU113.n (gne_t hH111 hH110 (by first | assumption | decide | simp | (intro h; simp at h))) hH111))) ⟨rfl, rfl⟩ ⟨(Nat.le_of_ble_eq_true rfl), (Nat.le_of_ble_eq_true rfl)⟩ rfl (Nat.le_of_ble_eq_true rfl) dX8_isRequest_281 rfl ⟨(Nat.le_of_ble_eq_true rfl), (Nat.le_of_ble_eq_true rfl)⟩) 284 rfl 0 (Nat.le_of_ble_eq_true rfl) ?_
                                    refine g_bipush hC dX8_isRequest_284 kb_59 286 rfl ?_
                                    refine g_icmp_eq hC dX8_isRequest_286 291 rfl 289 rfl (fun c_119 => ?_) (fun c_119 => ?_)
                                    · refine g_aload_n hC dX8_isRequest_291 2 rfl gRef_r 292 rfl ?_
                                      refine g_dup hC dX8_isRequest_292 rfl 293 rfl ?_
                                      refine g_get (v := .int (nI (pc_ + 8))) hC cI7 hU118.1 9 (Nat.le_of_ble_eq_true rfl) q2951 rfl dX8_isRequest_293 296 rfl ?_
                                      refine g_iconst hC dX8_isRequest_296 ki_1 297 rfl ?_
                                      refine g_iadd hC dX8_isRequest_297 298 rfl ?_
                                      refine g_topi (y := nI (pc_ + 9)) (nI_a (a := (pc_ + 8)) (b := 1) (c := (pc_ + 9)) (by omega)) ?_
                                      refine g_put hC cI7 hU118.1 9 (Nat.le_of_ble_eq_true rfl) q2951 rfl rfl rfl (Nat.le_of_ble_eq_true rfl) dX8_isRequest_298 (fs' := [.ref av, .ref asp, .ref ak, .ref aik, .ref atx, .int (nI lc), .ref am, .int mn, .ref aa, .int (nI (pc_ + 9)), .ref ato]) rfl 301 rfl (fun M120 hU121 => ?_)
                                      refine g_iconst hC dX8_isRequest_301 ki_1 302 rfl ?_
                                      have hq9 : rqT (hereT tx lc) pc_ = (pc_ + 9, some (hereT tx lc pc_ - 48, idT (hereT tx lc) (pc_ + 2), 1, hereT tx lc (pc_ + 7) - 48, 0)) := by simp only [rqT, rqD, rqE, show pc_ + 6 + 1 = pc_ + 7 from rfl, show pc_ + 6 + 2 = pc_ + 8 from rfl, show pc_ + 8 + 1 = pc_ + 9 from rfl, eq_true c_5, eq_true c_8, eq_false c_18, eq_true c_20, eq_false c_28, eq_false c_39, eq_true c_48, eq_true c_53, eq_true c_116, eq_true c_119, if_true, if_false, true_and, and_true, false_and, and_false, true_or, or_true, false_or, or_false, not_true_eq_false, not_false_eq_true, reduceIte, decide_true, decide_false, Bool.false_eq_true]
                                      exact g_zret (v := 1) hC (by decide) (fun k9 hk9 => ⟨F114, (by rw [hq9]; rfl), (by rw [hU121.1, hq9]), (hU121.n (gne_ao (hU118.n (gne_ao hU113.1 (hU113.n (gne_oa hU109.1 hH110) hU109.1)) hU113.1) hU118.1) (hU118.n (gne_ao hU113.1 (hU113.n (gne_oa hU109.1 hH110) hU109.1)) hU113.1)), ((((((((((((((((((gFr.refl.up hU2 hM_2 (by simp)).up hU7 (hU2.n (gne_oa hM_0 hM_2) hM_0) (by simp)).up hU10 hU7.1 (by simp)).up hU14 hH11 (by simp)).up hU22 hU14.1 (by simp)).up hU26 (hU22.n (gne_oa (hU14.n (gne_oa hU10.1 hH11) hU10.1) hU14.1) (hU14.n (gne_oa hU10.1 hH11) hU10.1)) (by simp)).up hU31 (hU26.n (gne_ao hU22.1 (hU22.n (gne_oa (hU14.n (gne_oa hU10.1 hH11) hU10.1) hU14.1) (hU14.n (gne_oa hU10.1 hH11) hU10.1))) hU22.1) (by simp)).up hU37 hH34 (by simp)).up hU42 (hU37.n (gne_ao hU31.1 hH34) hU31.1) (by simp)).up hU46 (hU42.n (gne_oa hU37.1 (hU37.n (gne_ao hU31.1 hH34) hU31.1)) hU37.1) (by simp)).up hU50 hU46.1 (by simp)).up hU96 hH51 (by simp)).up hU100 hU96.1 (by simp)).up hU104 hU100.1 (by simp)).up hU109 (hU104.n (gne_oa (hU100.n (gne_oa (hU96.n (gne_oa hU50.1 hH51) hU50.1) hU96.1) (hU96.n (gne_oa hU50.1 hH51) hU50.1)) hU100.1) (hU100.n (gne_oa (hU96.n (gne_oa hU50.1 hH51) hU50.1) hU96.1) (hU96.n (gne_oa hU50.1 hH51) hU50.1))) (by simp)).up hU113 hH110 (by simp)).up hU118 (hU113.n (gne_oa hU109.1 hH110) hU109.1) (by simp)).up hU121 hU118.1 (by simp)), (fun t ht => by cases Option.some.inj ((congrArg Prod.snd hq9).symm.trans ht); exact ⟨(by rw [eF115, pk_un (by omega), eF106, pk_un (by omega), eF102, pk_un (by omega), eF98, pk_un (by omega), eF44, pk_un (by omega), eF33, pk_un (by omega), eF24, pk_un (by omega), eF16, pk_un (by omega), eF4]; exact pk_us), (by rw [eF115, pk_un (by omega), eF106, pk_un (by omega), eF102, pk_un (by omega), eF98, pk_un (by omega), eF44]; exact pk_us), (by rw [eF115, pk_un (by omega), eF106, pk_un (by omega), eF102, pk_un (by omega), eF98]; exact pk_us), (by rw [eF115]; exact pk_us), (by rw [eF115, pk_un (by omega), eF106]; exact pk_us)⟩), (by first | exact Nat.le_zero.mp hk9 | omega)⟩) dX8_isRequest_302 (Nat.le_of_ble_eq_true rfl) (Nat.le_of_ble_eq_true rfl)
                                    · refine g_iconst hC dX8_isRequest_289 ki_0 290 rfl ?_
                                      have hq9 : rqT (hereT tx lc) pc_ = (pc_ + 8, none) := by simp only [rqT, rqD, rqE, show pc_ + 6 + 1 = pc_ + 7 from rfl, show pc_ + 6 + 2 = pc_ + 8 from rfl, show pc_ + 8 + 1 = pc_ + 9 from rfl, eq_true c_5, eq_true c_8, eq_false c_18, eq_true c_20, eq_false c_28, eq_false c_39, eq_true c_48, eq_true c_53, eq_true c_116, eq_false c_119, if_true, if_false, true_and, and_true, false_and, and_false, true_or, or_true, false_or, or_false, not_true_eq_false, not_false_eq_true, reduceIte, decide_true, decide_false, Bool.false_eq_true]
                                      exact g_zret (v := 0) hC (by decide) (fun k9 hk9 => ⟨F114, (by rw [hq9]; rfl), (by rw [hU118.1, hq9]), (hU118.n (gne_ao hU113.1 (hU113.n (gne_oa hU109.1 hH110) hU109.1)) hU113.1), (((((((((((((((((gFr.refl.up hU2 hM_2 (by simp)).up hU7 (hU2.n (gne_oa hM_0 hM_2) hM_0) (by simp)).up hU10 hU7.1 (by simp)).up hU14 hH11 (by simp)).up hU22 hU14.1 (by simp)).up hU26 (hU22.n (gne_oa (hU14.n (gne_oa hU10.1 hH11) hU10.1) hU14.1) (hU14.n (gne_oa hU10.1 hH11) hU10.1)) (by simp)).up hU31 (hU26.n (gne_ao hU22.1 (hU22.n (gne_oa (hU14.n (gne_oa hU10.1 hH11) hU10.1) hU14.1) (hU14.n (gne_oa hU10.1 hH11) hU10.1))) hU22.1) (by simp)).up hU37 hH34 (by simp)).up hU42 (hU37.n (gne_ao hU31.1 hH34) hU31.1) (by simp)).up hU46 (hU42.n (gne_oa hU37.1 (hU37.n (gne_ao hU31.1 hH34) hU31.1)) hU37.1) (by simp)).up hU50 hU46.1 (by simp)).up hU96 hH51 (by simp)).up hU100 hU96.1 (by simp)).up hU104 hU100.1 (by simp)).up hU109 (hU104.n (gne_oa (hU100.n (gne_oa (hU96.n (gne_oa hU50.1 hH51) hU50.1) hU96.1) (hU96.n (gne_oa hU50.1 hH51) hU50.1)) hU100.1) (hU100.n (gne_oa (hU96.n (gne_oa hU50.1 hH51) hU50.1) hU96.1) (hU96.n (gne_oa hU50.1 hH51) hU50.1))) (by simp)).up hU113 hH110 (by simp)).up hU118 (hU113.n (gne_oa hU109.1 hH110) hU109.1) (by simp)), (fun t ht => absurd ((congrArg Prod.snd hq9).symm.trans ht) (by simp)), (by first | exact Nat.le_zero.mp hk9 | omega)⟩) dX8_isRequest_290 (Nat.le_of_ble_eq_true rfl) (Nat.le_of_ble_eq_true rfl)
                                  · replace c_116 := bId_0 c_116
                                    refine g_iconst hC dX8_isRequest_200 ki_0 201 rfl ?_
                                    have hq9 : rqT (hereT tx lc) pc_ = (pc_ + 7, none) := by simp only [rqT, rqD, rqE, show pc_ + 6 + 1 = pc_ + 7 from rfl, show pc_ + 6 + 2 = pc_ + 8 from rfl, show pc_ + 8 + 1 = pc_ + 9 from rfl, eq_true c_5, eq_true c_8, eq_false c_18, eq_true c_20, eq_false c_28, eq_false c_39, eq_true c_48, eq_true c_53, eq_false c_116, if_true, if_false, true_and, and_true, false_and, and_false, true_or, or_true, false_or, or_false, not_true_eq_false, not_false_eq_true, reduceIte, decide_true, decide_false, Bool.false_eq_true]
                                    exact g_zret (v := 0) hC (by decide) (fun k9 hk9 => ⟨F114, (by rw [hq9]; rfl), (by rw [(hU113.n (gne_oa hU109.1 hH110) hU109.1), hq9]), hU113.1, ((((((((((((((((gFr.refl.up hU2 hM_2 (by simp)).up hU7 (hU2.n (gne_oa hM_0 hM_2) hM_0) (by simp)).up hU10 hU7.1 (by simp)).up hU14 hH11 (by simp)).up hU22 hU14.1 (by simp)).up hU26 (hU22.n (gne_oa (hU14.n (gne_oa hU10.1 hH11) hU10.1) hU14.1) (hU14.n (gne_oa hU10.1 hH11) hU10.1)) (by simp)).up hU31 (hU26.n (gne_ao hU22.1 (hU22.n (gne_oa (hU14.n (gne_oa hU10.1 hH11) hU10.1) hU14.1) (hU14.n (gne_oa hU10.1 hH11) hU10.1))) hU22.1) (by simp)).up hU37 hH34 (by simp)).up hU42 (hU37.n (gne_ao hU31.1 hH34) hU31.1) (by simp)).up hU46 (hU42.n (gne_oa hU37.1 (hU37.n (gne_ao hU31.1 hH34) hU31.1)) hU37.1) (by simp)).up hU50 hU46.1 (by simp)).up hU96 hH51 (by simp)).up hU100 hU96.1 (by simp)).up hU104 hU100.1 (by simp)).up hU109 (hU104.n (gne_oa (hU100.n (gne_oa (hU96.n (gne_oa hU50.1 hH51) hU50.1) hU96.1) (hU96.n (gne_oa hU50.1 hH51) hU50.1)) hU100.1) (hU100.n (gne_oa (hU96.n (gne_oa hU50.1 hH51) hU50.1) hU96.1) (hU96.n (gne_oa hU50.1 hH51) hU50.1))) (by simp)).up hU113 hH110 (by simp)), (fun t ht => absurd ((congrArg Prod.snd hq9).symm.trans ht) (by simp)), (by first | exact Nat.le_zero.mp hk9 | omega)⟩) dX8_isRequest_201 (Nat.le_of_ble_eq_true rfl) (Nat.le_of_ble_eq_true rfl)
                            · refine g_iconst hC dX8_isRequest_125 ki_0 126 rfl ?_
                              have hq9 : rqT (hereT tx lc) pc_ = (pc_ + 5, none) := by simp only [rqT, rqD, rqE, show pc_ + 6 + 1 = pc_ + 7 from rfl, show pc_ + 6 + 2 = pc_ + 8 from rfl, show pc_ + 8 + 1 = pc_ + 9 from rfl, eq_true c_5, eq_true c_8, eq_false c_18, eq_true c_20, eq_false c_28, eq_false c_39, eq_false c_48, if_true, if_false, true_and, and_true, false_and, and_false, true_or, or_true, false_or, or_false, not_true_eq_false, not_false_eq_true, reduceIte, decide_true, decide_false, Bool.false_eq_true]
                              exact g_zret (v := 0) hC (by decide) (fun k9 hk9 => ⟨F43, (by rw [hq9]; rfl), (by rw [hU46.1, hq9]), (hU46.n (gne_ao hU42.1 (hU42.n (gne_oa hU37.1 (hU37.n (gne_ao hU31.1 hH34) hU31.1)) hU37.1)) hU42.1), ((((((((((gFr.refl.up hU2 hM_2 (by simp)).up hU7 (hU2.n (gne_oa hM_0 hM_2) hM_0) (by simp)).up hU10 hU7.1 (by simp)).up hU14 hH11 (by simp)).up hU22 hU14.1 (by simp)).up hU26 (hU22.n (gne_oa (hU14.n (gne_oa hU10.1 hH11) hU10.1) hU14.1) (hU14.n (gne_oa hU10.1 hH11) hU10.1)) (by simp)).up hU31 (hU26.n (gne_ao hU22.1 (hU22.n (gne_oa (hU14.n (gne_oa hU10.1 hH11) hU10.1) hU14.1) (hU14.n (gne_oa hU10.1 hH11) hU10.1))) hU22.1) (by simp)).up hU37 hH34 (by simp)).up hU42 (hU37.n (gne_ao hU31.1 hH34) hU31.1) (by simp)).up hU46 (hU42.n (gne_oa hU37.1 (hU37.n (gne_ao hU31.1 hH34) hU31.1)) hU37.1) (by simp)), (fun t ht => absurd ((congrArg Prod.snd hq9).symm.trans ht) (by simp)), (by first | exact Nat.le_zero.mp hk9 | omega)⟩) dX8_isRequest_126 (Nat.le_of_ble_eq_true rfl) (Nat.le_of_ble_eq_true rfl)
                          · exact absurd c_47 (by decide)
                        · exact absurd c_40 (by decide)
                  · exact absurd c_29 (by decide)
            · refine g_iconst hC dX8_isRequest_87 ki_0 88 rfl ?_
              have hq9 : rqT (hereT tx lc) pc_ = (pc_ + 2, none) := by simp only [rqT, rqD, rqE, show pc_ + 6 + 1 = pc_ + 7 from rfl, show pc_ + 6 + 2 = pc_ + 8 from rfl, show pc_ + 8 + 1 = pc_ + 9 from rfl, eq_true c_5, eq_true c_8, eq_false c_18, eq_false c_20, if_true, if_false, true_and, and_true, false_and, and_false, true_or, or_true, false_or, or_false, not_true_eq_false, not_false_eq_true, reduceIte, decide_true, decide_false, Bool.false_eq_true]
              exact g_zret (v := 0) hC (by decide) (fun k9 hk9 => ⟨F15, (by rw [hq9]; rfl), (by rw [(hU14.n (gne_oa hU10.1 hH11) hU10.1), hq9]), hU14.1, ((((gFr.refl.up hU2 hM_2 (by simp)).up hU7 (hU2.n (gne_oa hM_0 hM_2) hM_0) (by simp)).up hU10 hU7.1 (by simp)).up hU14 hH11 (by simp)), (fun t ht => absurd ((congrArg Prod.snd hq9).symm.trans ht) (by simp)), (by first | exact Nat.le_zero.mp hk9 | omega)⟩) dX8_isRequest_88 (Nat.le_of_ble_eq_true rfl) (Nat.le_of_ble_eq_true rfl)
    · refine g_iconst hC dX8_isRequest_42 ki_0 43 rfl ?_
      have hq9 : rqT (hereT tx lc) pc_ = (pc_ + 1, none) := by simp only [rqT, rqD, rqE, show pc_ + 6 + 1 = pc_ + 7 from rfl, show pc_ + 6 + 2 = pc_ + 8 from rfl, show pc_ + 8 + 1 = pc_ + 9 from rfl, eq_true c_5, eq_false c_8, if_true, if_false, true_and, and_true, false_and, and_false, true_or, or_true, false_or, or_false, not_true_eq_false, not_false_eq_true, reduceIte, decide_true, decide_false, Bool.false_eq_true]
      exact g_zret (v := 0) hC (by decide) (fun k9 hk9 => ⟨F3, (by rw [hq9]; rfl), (by rw [hU7.1, hq9]), (hU7.n (gne_ao hU2.1 (hU2.n (gne_oa hM_0 hM_2) hM_0)) hU2.1), ((gFr.refl.up hU2 hM_2 (by simp)).up hU7 (hU2.n (gne_oa hM_0 hM_2) hM_0) (by simp)), (fun t ht => absurd ((congrArg Prod.snd hq9).symm.trans ht) (by simp)), (by first | exact Nat.le_zero.mp hk9 | omega)⟩) dX8_isRequest_43 (Nat.le_of_ble_eq_true rfl) (Nat.le_of_ble_eq_true rfl)
  · replace c_5 := bId_0 c_5
    refine g_iconst hC dX8_isRequest_21 ki_0 22 rfl ?_
    have hq9 : rqT (hereT tx lc) pc_ = (pc_, none) := by simp only [rqT, rqD, rqE, show pc_ + 6 + 1 = pc_ + 7 from rfl, show pc_ + 6 + 2 = pc_ + 8 from rfl, show pc_ + 8 + 1 = pc_ + 9 from rfl, eq_false c_5, if_true, if_false, true_and, and_true, false_and, and_false, true_or, or_true, false_or, or_false, not_true_eq_false, not_false_eq_true, reduceIte, decide_true, decide_false, Bool.false_eq_true]
    exact g_zret (v := 0) hC (by decide) (fun k9 hk9 => ⟨F3, (by rw [hq9]; rfl), (by rw [(hU2.n (gne_oa hM_0 hM_2) hM_0), hq9]), hU2.1, (gFr.refl.up hU2 hM_2 (by simp)), (fun t ht => absurd ((congrArg Prod.snd hq9).symm.trans ht) (by simp)), (by first | exact Nat.le_zero.mp hk9 | omega)⟩) dX8_isRequest_22 (Nat.le_of_ble_eq_true rfl) (Nat.le_of_ble_eq_true rfl)
