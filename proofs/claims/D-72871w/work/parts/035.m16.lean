/-! the reference: its making, the text -/
set_option maxRecDepth 100000
theorem gFr.upf {P : Nat → (Nat × Nat) → Prop} {M0 M M' Mk Mk' : gM} {a : Nat} {x x' : (Nat × Nat) × va_E} (h1 : gFr P M0 M) (hk : gFr P M0 Mk) (hN : gNw Mk Mk' a x') (hU : gUp M M' a x) : gFr P M0 M' := fun b t e hb hn => hU.n (hN.ne (hk b t e hb hn)) (h1 b t e hb hn)
theorem gFr.trf {P Q : Nat → (Nat × Nat) → Prop} {M0 M M' : gM} (h1 : gFr P M0 M) (h2 : gFr Q M M') (hs : ∀ b t e, M0 b = some (t, e) → ¬ P b t → ¬ Q b t) : gFr P M0 M' := fun b t e hb hn => h2 b t e (h1 b t e hb hn) (hs b t e hb hn)
def T_init : Nat → Int32 := upd (upd (upd (upd (upd (upd (upd (fun _ => 0) 1025 128) 1026 256) 1027 4) 0 3) 256 3) 512 3) 768 3
set_option maxHeartbeats 4000000 in
theorem met_T_new (l : Launch) (G : gG) (M : gM) (o : Nat)  (hM_0 : M o = some ((1, 0), .inr (7, [.null, .null, .null, .null, .null, .int 0, .null, .int 0, .null, .int 0, .null]))) : Met l yX8_init (ws_ yX8_init cX8_init 2 none) ({ frames := 1, cells := 8, slots := 5465, locals := 21 }) (gPc G [.ref o] M) (gQv G (fun M9 k9 => ∃ av : Nat, ∃ asp : Nat, ∃ ak : Nat, ∃ aik : Nat, ∃ atx : Nat, ∃ am : Nat, ∃ aa : Nat, ∃ ato : Nat, M9 o = some ((1, 0), .inr (7, [.ref av, .ref asp, .ref ak, .ref aik, .ref atx, .int 0, .ref am, .int 0, .ref aa, .int 0, .ref ato])) ∧ M9 av = some ((1, 1), .inl (gcs G 0, 1310, .inl T_init)) ∧ M9 asp = some ((1, 2), .inl (gcs G 0, 1310, .inl (fun _ => 0))) ∧ M9 ak = some ((1, 3), .inl (gcs G 0, 2620, .inl (fun _ => 0))) ∧ M9 aik = some ((1, 4), .inl (gcs G 2, 2, .inl (fun _ => 0))) ∧ M9 atx = some ((1, 5), .inl (gcs G 0, 120, .inl (fun _ => 0))) ∧ M9 am = some ((1, 6), .inl (gcs G 0, 32, .inl (fun _ => 0))) ∧ M9 aa = some ((1, 7), .inl (gcs G 0, 66, .inl (fun _ => 0))) ∧ M9 ato = some ((1, 8), .inl (gcs G 0, 5, .inl (fun _ => 0))) ∧ gFr (gL [o]) M M9 ∧ k9 ≤ 8)) 8 5465 (gA G) := by
  refine gMet [(0, .ref o)] (by decide) (Nat.le_of_ble_eq_true rfl) rfl ?_
  intro p e s m below meth c hC
  refine g_aload_n hC dX8_init_0 0 rfl gRef_r 1 rfl ?_
  refine g_objInit hC q2938 q176 q177 dX8_init_1 (Nat.le_of_ble_eq_true rfl) (Nat.le_of_ble_eq_true rfl) 4 rfl ?_
  refine g_aload_n hC dX8_init_4 0 rfl gRef_r 5 rfl ?_
  refine g_sipush hC dX8_init_5 ks_1310 8 rfl ?_
  refine g_newa (atype := .int) hC rfl q468 0 rfl rfl (1, 1) (n := 1310) (N := 1310) (by decide) (by decide) (Nat.le_of_ble_eq_true rfl) (Nat.le_of_ble_eq_true rfl) (Nat.le_of_ble_eq_true rfl) 1 (Nat.le_of_ble_eq_true rfl) 1310 (Nat.le_of_ble_eq_true rfl) dX8_init_8 10 rfl (fun a1 M2 hN3 => ?_)
  refine g_putF hC cI7 (hN3.n hM_0) 0 (Nat.le_of_ble_eq_true rfl) q2942 rfl rfl rfl rfl (Nat.le_of_ble_eq_true rfl) dX8_init_10 (fs' := [.ref a1, .null, .null, .null, .null, .int 0, .null, .int 0, .null, .int 0, .null]) rfl 13 rfl (fun M4 hU5 => ?_)
  refine g_aload_n hC dX8_init_13 0 rfl gRef_r 14 rfl ?_
  refine g_sipush hC dX8_init_14 ks_1310 17 rfl ?_
  refine g_newa (atype := .int) hC rfl q468 0 rfl rfl (1, 2) (n := 1310) (N := 1310) (by decide) (by decide) (Nat.le_of_ble_eq_true rfl) (Nat.le_of_ble_eq_true rfl) (Nat.le_of_ble_eq_true rfl) 2 (Nat.le_of_ble_eq_true rfl) 2620 (Nat.le_of_ble_eq_true rfl) dX8_init_17 19 rfl (fun a6 M7 hN8 => ?_)
  refine g_putF hC cI7 (hN8.n hU5.1) 1 (Nat.le_of_ble_eq_true rfl) q2943 rfl rfl rfl rfl (Nat.le_of_ble_eq_true rfl) dX8_init_19 (fs' := [.ref a1, .ref a6, .null, .null, .null, .int 0, .null, .int 0, .null, .int 0, .null]) rfl 22 rfl (fun M9 hU10 => ?_)
  refine g_aload_n hC dX8_init_22 0 rfl gRef_r 23 rfl ?_
  refine g_sipush hC dX8_init_23 ks_2620 26 rfl ?_
  refine g_newa (atype := .int) hC rfl q468 0 rfl rfl (1, 3) (n := 2620) (N := 2620) (by decide) (by decide) (Nat.le_of_ble_eq_true rfl) (Nat.le_of_ble_eq_true rfl) (Nat.le_of_ble_eq_true rfl) 3 (Nat.le_of_ble_eq_true rfl) 5240 (Nat.le_of_ble_eq_true rfl) dX8_init_26 28 rfl (fun a11 M12 hN13 => ?_)
  refine g_putF hC cI7 (hN13.n hU10.1) 2 (Nat.le_of_ble_eq_true rfl) q2944 rfl rfl rfl rfl (Nat.le_of_ble_eq_true rfl) dX8_init_28 (fs' := [.ref a1, .ref a6, .ref a11, .null, .null, .int 0, .null, .int 0, .null, .int 0, .null]) rfl 31 rfl (fun M14 hU15 => ?_)
  refine g_aload_n hC dX8_init_31 0 rfl gRef_r 32 rfl ?_
  refine g_iconst hC dX8_init_32 ki_2 33 rfl ?_
  refine g_newa (atype := .boolean) hC rfl q2976 2 rfl rfl (1, 4) (n := 2) (N := 2) (by decide) (by decide) (Nat.le_of_ble_eq_true rfl) (Nat.le_of_ble_eq_true rfl) (Nat.le_of_ble_eq_true rfl) 4 (Nat.le_of_ble_eq_true rfl) 5242 (Nat.le_of_ble_eq_true rfl) dX8_init_33 35 rfl (fun a16 M17 hN18 => ?_)
  refine g_putF hC cI7 (hN18.n hU15.1) 3 (Nat.le_of_ble_eq_true rfl) q2945 rfl rfl rfl rfl (Nat.le_of_ble_eq_true rfl) dX8_init_35 (fs' := [.ref a1, .ref a6, .ref a11, .ref a16, .null, .int 0, .null, .int 0, .null, .int 0, .null]) rfl 38 rfl (fun M19 hU20 => ?_)
  refine g_aload_n hC dX8_init_38 0 rfl gRef_r 39 rfl ?_
  refine g_bipush hC dX8_init_39 kb_120 41 rfl ?_
  refine g_newa (atype := .int) hC rfl q468 0 rfl rfl (1, 5) (n := 120) (N := 120) (by decide) (by decide) (Nat.le_of_ble_eq_true rfl) (Nat.le_of_ble_eq_true rfl) (Nat.le_of_ble_eq_true rfl) 5 (Nat.le_of_ble_eq_true rfl) 5362 (Nat.le_of_ble_eq_true rfl) dX8_init_41 43 rfl (fun a21 M22 hN23 => ?_)
  refine g_putF hC cI7 (hN23.n hU20.1) 4 (Nat.le_of_ble_eq_true rfl) q2946 rfl rfl rfl rfl (Nat.le_of_ble_eq_true rfl) dX8_init_43 (fs' := [.ref a1, .ref a6, .ref a11, .ref a16, .ref a21, .int 0, .null, .int 0, .null, .int 0, .null]) rfl 46 rfl (fun M24 hU25 => ?_)
  refine g_aload_n hC dX8_init_46 0 rfl gRef_r 47 rfl ?_
  refine g_bipush hC dX8_init_47 kb_32 49 rfl ?_
  refine g_newa (atype := .int) hC rfl q468 0 rfl rfl (1, 6) (n := 32) (N := 32) (by decide) (by decide) (Nat.le_of_ble_eq_true rfl) (Nat.le_of_ble_eq_true rfl) (Nat.le_of_ble_eq_true rfl) 6 (Nat.le_of_ble_eq_true rfl) 5394 (Nat.le_of_ble_eq_true rfl) dX8_init_49 51 rfl (fun a26 M27 hN28 => ?_)
  refine g_putF hC cI7 (hN28.n hU25.1) 6 (Nat.le_of_ble_eq_true rfl) q2948 rfl rfl rfl rfl (Nat.le_of_ble_eq_true rfl) dX8_init_51 (fs' := [.ref a1, .ref a6, .ref a11, .ref a16, .ref a21, .int 0, .ref a26, .int 0, .null, .int 0, .null]) rfl 54 rfl (fun M29 hU30 => ?_)
  refine g_aload_n hC dX8_init_54 0 rfl gRef_r 55 rfl ?_
  refine g_bipush hC dX8_init_55 kb_66 57 rfl ?_
  refine g_newa (atype := .int) hC rfl q468 0 rfl rfl (1, 7) (n := 66) (N := 66) (by decide) (by decide) (Nat.le_of_ble_eq_true rfl) (Nat.le_of_ble_eq_true rfl) (Nat.le_of_ble_eq_true rfl) 7 (Nat.le_of_ble_eq_true rfl) 5460 (Nat.le_of_ble_eq_true rfl) dX8_init_57 59 rfl (fun a31 M32 hN33 => ?_)
  refine g_putF hC cI7 (hN33.n hU30.1) 8 (Nat.le_of_ble_eq_true rfl) q2950 rfl rfl rfl rfl (Nat.le_of_ble_eq_true rfl) dX8_init_59 (fs' := [.ref a1, .ref a6, .ref a11, .ref a16, .ref a21, .int 0, .ref a26, .int 0, .ref a31, .int 0, .null]) rfl 62 rfl (fun M34 hU35 => ?_)
  refine g_aload_n hC dX8_init_62 0 rfl gRef_r 63 rfl ?_
  refine g_iconst hC dX8_init_63 ki_5 64 rfl ?_
  refine g_newa (atype := .int) hC rfl q468 0 rfl rfl (1, 8) (n := 5) (N := 5) (by decide) (by decide) (Nat.le_of_ble_eq_true rfl) (Nat.le_of_ble_eq_true rfl) (Nat.le_of_ble_eq_true rfl) 8 (Nat.le_of_ble_eq_true rfl) 5465 (Nat.le_of_ble_eq_true rfl) dX8_init_64 66 rfl (fun a36 M37 hN38 => ?_)
  refine g_putF hC cI7 (hN38.n hU35.1) 10 (Nat.le_of_ble_eq_true rfl) q2952 rfl rfl rfl rfl (Nat.le_of_ble_eq_true rfl) dX8_init_66 (fs' := [.ref a1, .ref a6, .ref a11, .ref a16, .ref a21, .int 0, .ref a26, .int 0, .ref a31, .int 0, .ref a36]) rfl 69 rfl (fun M39 hU40 => ?_)
  refine g_aload_n hC dX8_init_69 0 rfl gRef_r 70 rfl ?_
  refine g_get (v := .ref a1) hC cI7 hU40.1 0 (Nat.le_of_ble_eq_true rfl) q2942 rfl dX8_init_70 73 rfl ?_
  refine g_sipush hC dX8_init_73 ks_1025 76 rfl ?_
  refine g_sipush hC dX8_init_76 ks_128 79 rfl ?_
  refine g_iast hC (hU40.n (Ne.symm (hN3.ne hM_0)) (hN38.n (hU35.n (Ne.symm (hN3.ne hM_0)) (hN33.n (hU30.n (Ne.symm (hN3.ne hM_0)) (hN28.n (hU25.n (Ne.symm (hN3.ne hM_0)) (hN23.n (hU20.n (Ne.symm (hN3.ne hM_0)) (hN18.n (hU15.n (Ne.symm (hN3.ne hM_0)) (hN13.n (hU10.n (Ne.symm (hN3.ne hM_0)) (hN8.n (hU5.n (Ne.symm (hN3.ne hM_0)) hN3.2.1))))))))))))))) 0 rfl (vp_in_nI (n := 1025) (by first | decide | omega) (by first | decide | omega)) 1025 (nI_clamp (n := 1025) (by decide)) dX8_init_79 80 rfl (fun M41 hU42 => ?_)
  obtain ⟨F43, eF44⟩ : ∃ z9, z9 = upd (fun _ => 0) 1025 128 := ⟨_, rfl⟩
  rw [← eF44] at hU42
  refine g_aload_n hC dX8_init_80 0 rfl gRef_r 81 rfl ?_
  refine g_get (v := .ref a1) hC cI7 (hU42.n (hN3.ne hM_0) hU40.1) 0 (Nat.le_of_ble_eq_true rfl) q2942 rfl dX8_init_81 84 rfl ?_
  refine g_sipush hC dX8_init_84 ks_1026 87 rfl ?_
  refine g_sipush hC dX8_init_87 ks_256 90 rfl ?_
  refine g_iast hC hU42.1 0 rfl (vp_in_nI (n := 1026) (by first | decide | omega) (by first | decide | omega)) 1026 (nI_clamp (n := 1026) (by decide)) dX8_init_90 91 rfl (fun M45 hU46 => ?_)
  obtain ⟨F47, eF48⟩ : ∃ z9, z9 = upd F43 1026 256 := ⟨_, rfl⟩
  rw [← eF48] at hU46
  refine g_aload_n hC dX8_init_91 0 rfl gRef_r 92 rfl ?_
  refine g_get (v := .ref a1) hC cI7 (hU46.n (hN3.ne hM_0) (hU42.n (hN3.ne hM_0) hU40.1)) 0 (Nat.le_of_ble_eq_true rfl) q2942 rfl dX8_init_92 95 rfl ?_
  refine g_sipush hC dX8_init_95 ks_1027 98 rfl ?_
  refine g_iconst hC dX8_init_98 ki_4 99 rfl ?_
  refine g_iast hC hU46.1 0 rfl (vp_in_nI (n := 1027) (by first | decide | omega) (by first | decide | omega)) 1027 (nI_clamp (n := 1027) (by decide)) dX8_init_99 100 rfl (fun M49 hU50 => ?_)
  obtain ⟨F51, eF52⟩ : ∃ z9, z9 = upd F47 1027 4 := ⟨_, rfl⟩
  rw [← eF52] at hU50
  refine g_iconst hC dX8_init_100 ki_0 101 rfl ?_
  refine g_istore_n hC dX8_init_101 rfl (Nat.le_of_ble_eq_true rfl) [(1, .int 0), (0, .ref o)] rfl 102 rfl ?_
  refine g_iload_n hC dX8_init_102 0 rfl 103 rfl ?_
  refine g_iconst hC dX8_init_103 ki_4 104 rfl ?_
  refine g_icmp_ge hC dX8_init_104 124 rfl 107 rfl (fun c_53 => ?_) (fun c_53 => ?_)
  · exact absurd c_53 (by decide)
  · refine g_aload_n hC dX8_init_107 1 rfl gRef_r 108 rfl ?_
    refine g_get (v := .ref a1) hC cI7 (hU50.n (hN3.ne hM_0) (hU46.n (hN3.ne hM_0) (hU42.n (hN3.ne hM_0) hU40.1))) 0 (Nat.le_of_ble_eq_true rfl) q2942 rfl dX8_init_108 111 rfl ?_
    refine g_iload_n hC dX8_init_111 0 rfl 112 rfl ?_
    refine g_iconst hC dX8_init_112 ki_0 113 rfl ?_
    refine g_calliP (g_S (As := [.int 0, .int 0]) (rest := [.ref a1]) hC msX8_at q2939 (met_T_at l G M49 0 0) ⟨rfl, rfl⟩ ⟨(Nat.le_of_ble_eq_true rfl), (Nat.le_of_ble_eq_true rfl)⟩ rfl (Nat.le_of_ble_eq_true rfl) dX8_init_113 rfl ⟨(Nat.le_of_ble_eq_true rfl), (Nat.le_of_ble_eq_true rfl)⟩) 116 rfl 5465 (Nat.le_of_ble_eq_true rfl) ?_
    refine g_topi (y := 0) (congrArg nI (show (256 * 0 + 0) = 0 by omega)) ?_
    refine g_iconst hC dX8_init_116 ki_3 117 rfl ?_
    refine g_iast hC hU50.1 0 rfl (vp_in_nI (n := 0) (by first | decide | omega) (by first | decide | omega)) 0 (nI_clamp (n := 0) (by decide)) dX8_init_117 118 rfl (fun M54 hU55 => ?_)
    obtain ⟨F56, eF57⟩ : ∃ z9, z9 = upd F51 0 3 := ⟨_, rfl⟩
    rw [← eF57] at hU55
    refine g_iinc hC dX8_init_118 0 rfl (v := 1) (by rw [ki_1]; exact nI_a (a := 0) (b := 1) (c := 1) (by omega)) (Nat.le_of_ble_eq_true rfl) [(1, .int 1), (0, .ref o)] rfl 121 rfl ?_
    refine g_goto hC dX8_init_121 102 rfl ?_
    refine g_iload_n hC dX8_init_102 0 rfl 103 rfl ?_
    refine g_iconst hC dX8_init_103 ki_4 104 rfl ?_
    refine g_icmp_ge hC dX8_init_104 124 rfl 107 rfl (fun c_58 => ?_) (fun c_58 => ?_)
    · exact absurd c_58 (by decide)
    · refine g_aload_n hC dX8_init_107 1 rfl gRef_r 108 rfl ?_
      refine g_get (v := .ref a1) hC cI7 (hU55.n (hN3.ne hM_0) (hU50.n (hN3.ne hM_0) (hU46.n (hN3.ne hM_0) (hU42.n (hN3.ne hM_0) hU40.1)))) 0 (Nat.le_of_ble_eq_true rfl) q2942 rfl dX8_init_108 111 rfl ?_
      refine g_iload_n hC dX8_init_111 0 rfl 112 rfl ?_
      refine g_iconst hC dX8_init_112 ki_0 113 rfl ?_
      refine g_calliP (g_S (As := [.int 1, .int 0]) (rest := [.ref a1]) hC msX8_at q2939 (met_T_at l G M54 1 0) ⟨rfl, rfl⟩ ⟨(Nat.le_of_ble_eq_true rfl), (Nat.le_of_ble_eq_true rfl)⟩ rfl (Nat.le_of_ble_eq_true rfl) dX8_init_113 rfl ⟨(Nat.le_of_ble_eq_true rfl), (Nat.le_of_ble_eq_true rfl)⟩) 116 rfl 5465 (Nat.le_of_ble_eq_true rfl) ?_
      refine g_topi (y := 256) (congrArg nI (show (256 * 1 + 0) = 256 by omega)) ?_
      refine g_iconst hC dX8_init_116 ki_3 117 rfl ?_
      refine g_iast hC hU55.1 0 rfl (vp_in_nI (n := 256) (by first | decide | omega) (by first | decide | omega)) 256 (nI_clamp (n := 256) (by decide)) dX8_init_117 118 rfl (fun M59 hU60 => ?_)
      obtain ⟨F61, eF62⟩ : ∃ z9, z9 = upd F56 256 3 := ⟨_, rfl⟩
      rw [← eF62] at hU60
      refine g_iinc hC dX8_init_118 0 rfl (v := 2) (by rw [ki_1]; exact nI_a (a := 1) (b := 1) (c := 2) (by omega)) (Nat.le_of_ble_eq_true rfl) [(1, .int 2), (0, .ref o)] rfl 121 rfl ?_
      refine g_goto hC dX8_init_121 102 rfl ?_
      refine g_iload_n hC dX8_init_102 0 rfl 103 rfl ?_
      refine g_iconst hC dX8_init_103 ki_4 104 rfl ?_
      refine g_icmp_ge hC dX8_init_104 124 rfl 107 rfl (fun c_63 => ?_) (fun c_63 => ?_)
      · exact absurd c_63 (by decide)
      · refine g_aload_n hC dX8_init_107 1 rfl gRef_r 108 rfl ?_
        refine g_get (v := .ref a1) hC cI7 (hU60.n (hN3.ne hM_0) (hU55.n (hN3.ne hM_0) (hU50.n (hN3.ne hM_0) (hU46.n (hN3.ne hM_0) (hU42.n (hN3.ne hM_0) hU40.1))))) 0 (Nat.le_of_ble_eq_true rfl) q2942 rfl dX8_init_108 111 rfl ?_
        refine g_iload_n hC dX8_init_111 0 rfl 112 rfl ?_
        refine g_iconst hC dX8_init_112 ki_0 113 rfl ?_
        refine g_calliP (g_S (As := [.int 2, .int 0]) (rest := [.ref a1]) hC msX8_at q2939 (met_T_at l G M59 2 0) ⟨rfl, rfl⟩ ⟨(Nat.le_of_ble_eq_true rfl), (Nat.le_of_ble_eq_true rfl)⟩ rfl (Nat.le_of_ble_eq_true rfl) dX8_init_113 rfl ⟨(Nat.le_of_ble_eq_true rfl), (Nat.le_of_ble_eq_true rfl)⟩) 116 rfl 5465 (Nat.le_of_ble_eq_true rfl) ?_
        refine g_topi (y := 512) (congrArg nI (show (256 * 2 + 0) = 512 by omega)) ?_
        refine g_iconst hC dX8_init_116 ki_3 117 rfl ?_
        refine g_iast hC hU60.1 0 rfl (vp_in_nI (n := 512) (by first | decide | omega) (by first | decide | omega)) 512 (nI_clamp (n := 512) (by decide)) dX8_init_117 118 rfl (fun M64 hU65 => ?_)
        obtain ⟨F66, eF67⟩ : ∃ z9, z9 = upd F61 512 3 := ⟨_, rfl⟩
        rw [← eF67] at hU65
        refine g_iinc hC dX8_init_118 0 rfl (v := 3) (by rw [ki_1]; exact nI_a (a := 2) (b := 1) (c := 3) (by omega)) (Nat.le_of_ble_eq_true rfl) [(1, .int 3), (0, .ref o)] rfl 121 rfl ?_
        refine g_goto hC dX8_init_121 102 rfl ?_
        refine g_iload_n hC dX8_init_102 0 rfl 103 rfl ?_
        refine g_iconst hC dX8_init_103 ki_4 104 rfl ?_
        refine g_icmp_ge hC dX8_init_104 124 rfl 107 rfl (fun c_68 => ?_) (fun c_68 => ?_)
        · exact absurd c_68 (by decide)
        · refine g_aload_n hC dX8_init_107 1 rfl gRef_r 108 rfl ?_
          refine g_get (v := .ref a1) hC cI7 (hU65.n (hN3.ne hM_0) (hU60.n (hN3.ne hM_0) (hU55.n (hN3.ne hM_0) (hU50.n (hN3.ne hM_0) (hU46.n (hN3.ne hM_0) (hU42.n (hN3.ne hM_0) hU40.1)))))) 0 (Nat.le_of_ble_eq_true rfl) q2942 rfl dX8_init_108 111 rfl ?_
          refine g_iload_n hC dX8_init_111 0 rfl 112 rfl ?_
          refine g_iconst hC dX8_init_112 ki_0 113 rfl ?_
          refine g_calliP (g_S (As := [.int 3, .int 0]) (rest := [.ref a1]) hC msX8_at q2939 (met_T_at l G M64 3 0) ⟨rfl, rfl⟩ ⟨(Nat.le_of_ble_eq_true rfl), (Nat.le_of_ble_eq_true rfl)⟩ rfl (Nat.le_of_ble_eq_true rfl) dX8_init_113 rfl ⟨(Nat.le_of_ble_eq_true rfl), (Nat.le_of_ble_eq_true rfl)⟩) 116 rfl 5465 (Nat.le_of_ble_eq_true rfl) ?_
          refine g_topi (y := 768) (congrArg nI (show (256 * 3 + 0) = 768 by omega)) ?_
          refine g_iconst hC dX8_init_116 ki_3 117 rfl ?_
          refine g_iast hC hU65.1 0 rfl (vp_in_nI (n := 768) (by first | decide | omega) (by first | decide | omega)) 768 (nI_clamp (n := 768) (by decide)) dX8_init_117 118 rfl (fun M69 hU70 => ?_)
          obtain ⟨F71, eF72⟩ : ∃ z9, z9 = upd F66 768 3 := ⟨_, rfl⟩
          rw [← eF72] at hU70
          refine g_iinc hC dX8_init_118 0 rfl (v := 4) (by rw [ki_1]; exact nI_a (a := 3) (b := 1) (c := 4) (by omega)) (Nat.le_of_ble_eq_true rfl) [(1, .int 4), (0, .ref o)] rfl 121 rfl ?_
          refine g_goto hC dX8_init_121 102 rfl ?_
          refine g_iload_n hC dX8_init_102 0 rfl 103 rfl ?_
          refine g_iconst hC dX8_init_103 ki_4 104 rfl ?_
          refine g_icmp_ge hC dX8_init_104 124 rfl 107 rfl (fun c_73 => ?_) (fun c_73 => ?_)
          · exact g_vret hC (fun k9 hk9 => ⟨a1, a6, a11, a16, a21, a26, a31, a36, (hU70.n (hN3.ne hM_0) (hU65.n (hN3.ne hM_0) (hU60.n (hN3.ne hM_0) (hU55.n (hN3.ne hM_0) (hU50.n (hN3.ne hM_0) (hU46.n (hN3.ne hM_0) (hU42.n (hN3.ne hM_0) hU40.1))))))), (by rw [hU70.1]; simp only [T_init, ← eF44, ← eF48, ← eF52, ← eF57, ← eF62, ← eF67, ← eF72]), (hU70.n (Ne.symm (hN8.ne (hU5.n (Ne.symm (hN3.ne hM_0)) hN3.2.1))) (hU65.n (Ne.symm (hN8.ne (hU5.n (Ne.symm (hN3.ne hM_0)) hN3.2.1))) (hU60.n (Ne.symm (hN8.ne (hU5.n (Ne.symm (hN3.ne hM_0)) hN3.2.1))) (hU55.n (Ne.symm (hN8.ne (hU5.n (Ne.symm (hN3.ne hM_0)) hN3.2.1))) (hU50.n (Ne.symm (hN8.ne (hU5.n (Ne.symm (hN3.ne hM_0)) hN3.2.1))) (hU46.n (Ne.symm (hN8.ne (hU5.n (Ne.symm (hN3.ne hM_0)) hN3.2.1))) (hU42.n (Ne.symm (hN8.ne (hU5.n (Ne.symm (hN3.ne hM_0)) hN3.2.1))) (hU40.n (Ne.symm (hN8.ne hU5.1)) (hN38.n (hU35.n (Ne.symm (hN8.ne hU5.1)) (hN33.n (hU30.n (Ne.symm (hN8.ne hU5.1)) (hN28.n (hU25.n (Ne.symm (hN8.ne hU5.1)) (hN23.n (hU20.n (Ne.symm (hN8.ne hU5.1)) (hN18.n (hU15.n (Ne.symm (hN8.ne hU5.1)) (hN13.n (hU10.n (Ne.symm (hN8.ne hU5.1)) hN8.2.1)))))))))))))))))))), (hU70.n (Ne.symm (hN13.ne (hU10.n (Ne.symm (hN3.ne hM_0)) (hN8.n (hU5.n (Ne.symm (hN3.ne hM_0)) hN3.2.1))))) (hU65.n (Ne.symm (hN13.ne (hU10.n (Ne.symm (hN3.ne hM_0)) (hN8.n (hU5.n (Ne.symm (hN3.ne hM_0)) hN3.2.1))))) (hU60.n (Ne.symm (hN13.ne (hU10.n (Ne.symm (hN3.ne hM_0)) (hN8.n (hU5.n (Ne.symm (hN3.ne hM_0)) hN3.2.1))))) (hU55.n (Ne.symm (hN13.ne (hU10.n (Ne.symm (hN3.ne hM_0)) (hN8.n (hU5.n (Ne.symm (hN3.ne hM_0)) hN3.2.1))))) (hU50.n (Ne.symm (hN13.ne (hU10.n (Ne.symm (hN3.ne hM_0)) (hN8.n (hU5.n (Ne.symm (hN3.ne hM_0)) hN3.2.1))))) (hU46.n (Ne.symm (hN13.ne (hU10.n (Ne.symm (hN3.ne hM_0)) (hN8.n (hU5.n (Ne.symm (hN3.ne hM_0)) hN3.2.1))))) (hU42.n (Ne.symm (hN13.ne (hU10.n (Ne.symm (hN3.ne hM_0)) (hN8.n (hU5.n (Ne.symm (hN3.ne hM_0)) hN3.2.1))))) (hU40.n (Ne.symm (hN13.ne hU10.1)) (hN38.n (hU35.n (Ne.symm (hN13.ne hU10.1)) (hN33.n (hU30.n (Ne.symm (hN13.ne hU10.1)) (hN28.n (hU25.n (Ne.symm (hN13.ne hU10.1)) (hN23.n (hU20.n (Ne.symm (hN13.ne hU10.1)) (hN18.n (hU15.n (Ne.symm (hN13.ne hU10.1)) hN13.2.1)))))))))))))))))), (hU70.n (Ne.symm (hN18.ne (hU15.n (Ne.symm (hN3.ne hM_0)) (hN13.n (hU10.n (Ne.symm (hN3.ne hM_0)) (hN8.n (hU5.n (Ne.symm (hN3.ne hM_0)) hN3.2.1))))))) (hU65.n (Ne.symm (hN18.ne (hU15.n (Ne.symm (hN3.ne hM_0)) (hN13.n (hU10.n (Ne.symm (hN3.ne hM_0)) (hN8.n (hU5.n (Ne.symm (hN3.ne hM_0)) hN3.2.1))))))) (hU60.n (Ne.symm (hN18.ne (hU15.n (Ne.symm (hN3.ne hM_0)) (hN13.n (hU10.n (Ne.symm (hN3.ne hM_0)) (hN8.n (hU5.n (Ne.symm (hN3.ne hM_0)) hN3.2.1))))))) (hU55.n (Ne.symm (hN18.ne (hU15.n (Ne.symm (hN3.ne hM_0)) (hN13.n (hU10.n (Ne.symm (hN3.ne hM_0)) (hN8.n (hU5.n (Ne.symm (hN3.ne hM_0)) hN3.2.1))))))) (hU50.n (Ne.symm (hN18.ne (hU15.n (Ne.symm (hN3.ne hM_0)) (hN13.n (hU10.n (Ne.symm (hN3.ne hM_0)) (hN8.n (hU5.n (Ne.symm (hN3.ne hM_0)) hN3.2.1))))))) (hU46.n (Ne.symm (hN18.ne (hU15.n (Ne.symm (hN3.ne hM_0)) (hN13.n (hU10.n (Ne.symm (hN3.ne hM_0)) (hN8.n (hU5.n (Ne.symm (hN3.ne hM_0)) hN3.2.1))))))) (hU42.n (Ne.symm (hN18.ne (hU15.n (Ne.symm (hN3.ne hM_0)) (hN13.n (hU10.n (Ne.symm (hN3.ne hM_0)) (hN8.n (hU5.n (Ne.symm (hN3.ne hM_0)) hN3.2.1))))))) (hU40.n (Ne.symm (hN18.ne hU15.1)) (hN38.n (hU35.n (Ne.symm (hN18.ne hU15.1)) (hN33.n (hU30.n (Ne.symm (hN18.ne hU15.1)) (hN28.n (hU25.n (Ne.symm (hN18.ne hU15.1)) (hN23.n (hU20.n (Ne.symm (hN18.ne hU15.1)) hN18.2.1)))))))))))))))), (hU70.n (Ne.symm (hN23.ne (hU20.n (Ne.symm (hN3.ne hM_0)) (hN18.n (hU15.n (Ne.symm (hN3.ne hM_0)) (hN13.n (hU10.n (Ne.symm (hN3.ne hM_0)) (hN8.n (hU5.n (Ne.symm (hN3.ne hM_0)) hN3.2.1))))))))) (hU65.n (Ne.symm (hN23.ne (hU20.n (Ne.symm (hN3.ne hM_0)) (hN18.n (hU15.n (Ne.symm (hN3.ne hM_0)) (hN13.n (hU10.n (Ne.symm (hN3.ne hM_0)) (hN8.n (hU5.n (Ne.symm (hN3.ne hM_0)) hN3.2.1))))))))) (hU60.n (Ne.symm (hN23.ne (hU20.n (Ne.symm (hN3.ne hM_0)) (hN18.n (hU15.n (Ne.symm (hN3.ne hM_0)) (hN13.n (hU10.n (Ne.symm (hN3.ne hM_0)) (hN8.n (hU5.n (Ne.symm (hN3.ne hM_0)) hN3.2.1))))))))) (hU55.n (Ne.symm (hN23.ne (hU20.n (Ne.symm (hN3.ne hM_0)) (hN18.n (hU15.n (Ne.symm (hN3.ne hM_0)) (hN13.n (hU10.n (Ne.symm (hN3.ne hM_0)) (hN8.n (hU5.n (Ne.symm (hN3.ne hM_0)) hN3.2.1))))))))) (hU50.n (Ne.symm (hN23.ne (hU20.n (Ne.symm (hN3.ne hM_0)) (hN18.n (hU15.n (Ne.symm (hN3.ne hM_0)) (hN13.n (hU10.n (Ne.symm (hN3.ne hM_0)) (hN8.n (hU5.n (Ne.symm (hN3.ne hM_0)) hN3.2.1))))))))) (hU46.n (Ne.symm (hN23.ne (hU20.n (Ne.symm (hN3.ne hM_0)) (hN18.n (hU15.n (Ne.symm (hN3.ne hM_0)) (hN13.n (hU10.n (Ne.symm (hN3.ne hM_0)) (hN8.n (hU5.n (Ne.symm (hN3.ne hM_0)) hN3.2.1))))))))) (hU42.n (Ne.symm (hN23.ne (hU20.n (Ne.symm (hN3.ne hM_0)) (hN18.n (hU15.n (Ne.symm (hN3.ne hM_0)) (hN13.n (hU10.n (Ne.symm (hN3.ne hM_0)) (hN8.n (hU5.n (Ne.symm (hN3.ne hM_0)) hN3.2.1))))))))) (hU40.n (Ne.symm (hN23.ne hU20.1)) (hN38.n (hU35.n (Ne.symm (hN23.ne hU20.1)) (hN33.n (hU30.n (Ne.symm (hN23.ne hU20.1)) (hN28.n (hU25.n (Ne.symm (hN23.ne hU20.1)) hN23.2.1)))))))))))))), (hU70.n (Ne.symm (hN28.ne (hU25.n (Ne.symm (hN3.ne hM_0)) (hN23.n (hU20.n (Ne.symm (hN3.ne hM_0)) (hN18.n (hU15.n (Ne.symm (hN3.ne hM_0)) (hN13.n (hU10.n (Ne.symm (hN3.ne hM_0)) (hN8.n (hU5.n (Ne.symm (hN3.ne hM_0)) hN3.2.1))))))))))) (hU65.n (Ne.symm (hN28.ne (hU25.n (Ne.symm (hN3.ne hM_0)) (hN23.n (hU20.n (Ne.symm (hN3.ne hM_0)) (hN18.n (hU15.n (Ne.symm (hN3.ne hM_0)) (hN13.n (hU10.n (Ne.symm (hN3.ne hM_0)) (hN8.n (hU5.n (Ne.symm (hN3.ne hM_0)) hN3.2.1))))))))))) (hU60.n (Ne.symm (hN28.ne (hU25.n (Ne.symm (hN3.ne hM_0)) (hN23.n (hU20.n (Ne.symm (hN3.ne hM_0)) (hN18.n (hU15.n (Ne.symm (hN3.ne hM_0)) (hN13.n (hU10.n (Ne.symm (hN3.ne hM_0)) (hN8.n (hU5.n (Ne.symm (hN3.ne hM_0)) hN3.2.1))))))))))) (hU55.n (Ne.symm (hN28.ne (hU25.n (Ne.symm (hN3.ne hM_0)) (hN23.n (hU20.n (Ne.symm (hN3.ne hM_0)) (hN18.n (hU15.n (Ne.symm (hN3.ne hM_0)) (hN13.n (hU10.n (Ne.symm (hN3.ne hM_0)) (hN8.n (hU5.n (Ne.symm (hN3.ne hM_0)) hN3.2.1))))))))))) (hU50.n (Ne.symm (hN28.ne (hU25.n (Ne.symm (hN3.ne hM_0)) (hN23.n (hU20.n (Ne.symm (hN3.ne hM_0)) (hN18.n (hU15.n (Ne.symm (hN3.ne hM_0)) (hN13.n (hU10.n (Ne.symm (hN3.ne hM_0)) (hN8.n (hU5.n (Ne.symm (hN3.ne hM_0)) hN3.2.1))))))))))) (hU46.n (Ne.symm (hN28.ne (hU25.n (Ne.symm (hN3.ne hM_0)) (hN23.n (hU20.n (Ne.symm (hN3.ne hM_0)) (hN18.n (hU15.n (Ne.symm (hN3.ne hM_0)) (hN13.n (hU10.n (Ne.symm (hN3.ne hM_0)) (hN8.n (hU5.n (Ne.symm (hN3.ne hM_0)) hN3.2.1))))))))))) (hU42.n (Ne.symm (hN28.ne (hU25.n (Ne.symm (hN3.ne hM_0)) (hN23.n (hU20.n (Ne.symm (hN3.ne hM_0)) (hN18.n (hU15.n (Ne.symm (hN3.ne hM_0)) (hN13.n (hU10.n (Ne.symm (hN3.ne hM_0)) (hN8.n (hU5.n (Ne.symm (hN3.ne hM_0)) hN3.2.1))))))))))) (hU40.n (Ne.symm (hN28.ne hU25.1)) (hN38.n (hU35.n (Ne.symm (hN28.ne hU25.1)) (hN33.n (hU30.n (Ne.symm (hN28.ne hU25.1)) hN28.2.1)))))))))))), (hU70.n (Ne.symm (hN33.ne (hU30.n (Ne.symm (hN3.ne hM_0)) (hN28.n (hU25.n (Ne.symm (hN3.ne hM_0)) (hN23.n (hU20.n (Ne.symm (hN3.ne hM_0)) (hN18.n (hU15.n (Ne.symm (hN3.ne hM_0)) (hN13.n (hU10.n (Ne.symm (hN3.ne hM_0)) (hN8.n (hU5.n (Ne.symm (hN3.ne hM_0)) hN3.2.1))))))))))))) (hU65.n (Ne.symm (hN33.ne (hU30.n (Ne.symm (hN3.ne hM_0)) (hN28.n (hU25.n (Ne.symm (hN3.ne hM_0)) (hN23.n (hU20.n (Ne.symm (hN3.ne hM_0)) (hN18.n (hU15.n (Ne.symm (hN3.ne hM_0)) (hN13.n (hU10.n (Ne.symm (hN3.ne hM_0)) (hN8.n (hU5.n (Ne.symm (hN3.ne hM_0)) hN3.2.1))))))))))))) (hU60.n (Ne.symm (hN33.ne (hU30.n (Ne.symm (hN3.ne hM_0)) (hN28.n (hU25.n (Ne.symm (hN3.ne hM_0)) (hN23.n (hU20.n (Ne.symm (hN3.ne hM_0)) (hN18.n (hU15.n (Ne.symm (hN3.ne hM_0)) (hN13.n (hU10.n (Ne.symm (hN3.ne hM_0)) (hN8.n (hU5.n (Ne.symm (hN3.ne hM_0)) hN3.2.1))))))))))))) (hU55.n (Ne.symm (hN33.ne (hU30.n (Ne.symm (hN3.ne hM_0)) (hN28.n (hU25.n (Ne.symm (hN3.ne hM_0)) (hN23.n (hU20.n (Ne.symm (hN3.ne hM_0)) (hN18.n (hU15.n (Ne.symm (hN3.ne hM_0)) (hN13.n (hU10.n (Ne.symm (hN3.ne hM_0)) (hN8.n (hU5.n (Ne.symm (hN3.ne hM_0)) hN3.2.1))))))))))))) (hU50.n (Ne.symm (hN33.ne (hU30.n (Ne.symm (hN3.ne hM_0)) (hN28.n (hU25.n (Ne.symm (hN3.ne hM_0)) (hN23.n (hU20.n (Ne.symm (hN3.ne hM_0)) (hN18.n (hU15.n (Ne.symm (hN3.ne hM_0)) (hN13.n (hU10.n (Ne.symm (hN3.ne hM_0)) (hN8.n (hU5.n (Ne.symm (hN3.ne hM_0)) hN3.2.1))))))))))))) (hU46.n (Ne.symm (hN33.ne (hU30.n (Ne.symm (hN3.ne hM_0)) (hN28.n (hU25.n (Ne.symm (hN3.ne hM_0)) (hN23.n (hU20.n (Ne.symm (hN3.ne hM_0)) (hN18.n (hU15.n (Ne.symm (hN3.ne hM_0)) (hN13.n (hU10.n (Ne.symm (hN3.ne hM_0)) (hN8.n (hU5.n (Ne.symm (hN3.ne hM_0)) hN3.2.1))))))))))))) (hU42.n (Ne.symm (hN33.ne (hU30.n (Ne.symm (hN3.ne hM_0)) (hN28.n (hU25.n (Ne.symm (hN3.ne hM_0)) (hN23.n (hU20.n (Ne.symm (hN3.ne hM_0)) (hN18.n (hU15.n (Ne.symm (hN3.ne hM_0)) (hN13.n (hU10.n (Ne.symm (hN3.ne hM_0)) (hN8.n (hU5.n (Ne.symm (hN3.ne hM_0)) hN3.2.1))))))))))))) (hU40.n (Ne.symm (hN33.ne hU30.1)) (hN38.n (hU35.n (Ne.symm (hN33.ne hU30.1)) hN33.2.1)))))))))), (hU70.n (Ne.symm (hN38.ne (hU35.n (Ne.symm (hN3.ne hM_0)) (hN33.n (hU30.n (Ne.symm (hN3.ne hM_0)) (hN28.n (hU25.n (Ne.symm (hN3.ne hM_0)) (hN23.n (hU20.n (Ne.symm (hN3.ne hM_0)) (hN18.n (hU15.n (Ne.symm (hN3.ne hM_0)) (hN13.n (hU10.n (Ne.symm (hN3.ne hM_0)) (hN8.n (hU5.n (Ne.symm (hN3.ne hM_0)) hN3.2.1))))))))))))))) (hU65.n (Ne.symm (hN38.ne (hU35.n (Ne.symm (hN3.ne hM_0)) (hN33.n (hU30.n (Ne.symm (hN3.ne hM_0)) (hN28.n (hU25.n (Ne.symm (hN3.ne hM_0)) (hN23.n (hU20.n (Ne.symm (hN3.ne hM_0)) (hN18.n (hU15.n (Ne.symm (hN3.ne hM_0)) (hN13.n (hU10.n (Ne.symm (hN3.ne hM_0)) (hN8.n (hU5.n (Ne.symm (hN3.ne hM_0)) hN3.2.1))))))))))))))) (hU60.n (Ne.symm (hN38.ne (hU35.n (Ne.symm (hN3.ne hM_0)) (hN33.n (hU30.n (Ne.symm (hN3.ne hM_0)) (hN28.n (hU25.n (Ne.symm (hN3.ne hM_0)) (hN23.n (hU20.n (Ne.symm (hN3.ne hM_0)) (hN18.n (hU15.n (Ne.symm (hN3.ne hM_0)) (hN13.n (hU10.n (Ne.symm (hN3.ne hM_0)) (hN8.n (hU5.n (Ne.symm (hN3.ne hM_0)) hN3.2.1))))))))))))))) (hU55.n (Ne.symm (hN38.ne (hU35.n (Ne.symm (hN3.ne hM_0)) (hN33.n (hU30.n (Ne.symm (hN3.ne hM_0)) (hN28.n (hU25.n (Ne.symm (hN3.ne hM_0)) (hN23.n (hU20.n (Ne.symm (hN3.ne hM_0)) (hN18.n (hU15.n (Ne.symm (hN3.ne hM_0)) (hN13.n (hU10.n (Ne.symm (hN3.ne hM_0)) (hN8.n (hU5.n (Ne.symm (hN3.ne hM_0)) hN3.2.1))))))))))))))) (hU50.n (Ne.symm (hN38.ne (hU35.n (Ne.symm (hN3.ne hM_0)) (hN33.n (hU30.n (Ne.symm (hN3.ne hM_0)) (hN28.n (hU25.n (Ne.symm (hN3.ne hM_0)) (hN23.n (hU20.n (Ne.symm (hN3.ne hM_0)) (hN18.n (hU15.n (Ne.symm (hN3.ne hM_0)) (hN13.n (hU10.n (Ne.symm (hN3.ne hM_0)) (hN8.n (hU5.n (Ne.symm (hN3.ne hM_0)) hN3.2.1))))))))))))))) (hU46.n (Ne.symm (hN38.ne (hU35.n (Ne.symm (hN3.ne hM_0)) (hN33.n (hU30.n (Ne.symm (hN3.ne hM_0)) (hN28.n (hU25.n (Ne.symm (hN3.ne hM_0)) (hN23.n (hU20.n (Ne.symm (hN3.ne hM_0)) (hN18.n (hU15.n (Ne.symm (hN3.ne hM_0)) (hN13.n (hU10.n (Ne.symm (hN3.ne hM_0)) (hN8.n (hU5.n (Ne.symm (hN3.ne hM_0)) hN3.2.1))))))))))))))) (hU42.n (Ne.symm (hN38.ne (hU35.n (Ne.symm (hN3.ne hM_0)) (hN33.n (hU30.n (Ne.symm (hN3.ne hM_0)) (hN28.n (hU25.n (Ne.symm (hN3.ne hM_0)) (hN23.n (hU20.n (Ne.symm (hN3.ne hM_0)) (hN18.n (hU15.n (Ne.symm (hN3.ne hM_0)) (hN13.n (hU10.n (Ne.symm (hN3.ne hM_0)) (hN8.n (hU5.n (Ne.symm (hN3.ne hM_0)) hN3.2.1))))))))))))))) (hU40.n (Ne.symm (hN38.ne hU35.1)) hN38.2.1)))))))), (((((((((((((((((((((((gFr.refl.nw hN3).up hU5 (hN3.n hM_0) (by simp)).nw hN8).up hU10 (hN8.n hU5.1) (by simp)).nw hN13).up hU15 (hN13.n hU10.1) (by simp)).nw hN18).up hU20 (hN18.n hU15.1) (by simp)).nw hN23).up hU25 (hN23.n hU20.1) (by simp)).nw hN28).up hU30 (hN28.n hU25.1) (by simp)).nw hN33).up hU35 (hN33.n hU30.1) (by simp)).nw hN38).up hU40 (hN38.n hU35.1) (by simp)).upf gFr.refl hN3 hU42).upf gFr.refl hN3 hU46).upf gFr.refl hN3 hU50).upf gFr.refl hN3 hU55).upf gFr.refl hN3 hU60).upf gFr.refl hN3 hU65).upf gFr.refl hN3 hU70), (by omega)⟩) dX8_init_124 (Nat.le_of_ble_eq_true rfl) (Nat.le_of_ble_eq_true rfl)
          · exact absurd c_73 (by decide)
set_option maxHeartbeats 4000000 in
theorem met_T_append_n (l : Launch) (G : gG) (M : gM) (o : Nat) (av : Nat) (asp : Nat) (ak : Nat) (aik : Nat) (atx : Nat) (lc : Nat) (am : Nat) (mn : Int32) (aa : Nat) (pc_ : Nat) (ato : Nat) (tx : Nat → Int32) (x : Int32) (hx : ¬ (0 ≤ x ∧ x ≤ 127)) (hM_0 : M o = some ((1, 0), .inr (7, [.ref av, .ref asp, .ref ak, .ref aik, .ref atx, .int (nI lc), .ref am, .int mn, .ref aa, .int (nI pc_), .ref ato]))) (hM_1 : M atx = some ((1, 5), .inl (gcs G 0, 120, .inl tx))) : Met l yX8_append (ws_ yX8_append cX8_append 2 (some .int)) ({ frames := 1, cells := 0, slots := 0, locals := 22 }) (gPc G [.ref o, .int x] M) (gQi G (fun r9 M9 k9 => r9 = (-2) ∧ M9 = M ∧ k9 = 0)) 0 0 (gA G) := by
  refine gMet [(0, .ref o), (1, .int x)] (by decide) (Nat.le_of_ble_eq_true rfl) rfl ?_
  intro p e s m below meth c hC
  refine g_iload_n hC dX8_append_0 1 rfl 1 rfl ?_
  refine g_iconst hC dX8_append_1 ki_0 2 rfl ?_
  refine g_bipush hC dX8_append_2 kb_127 4 rfl ?_
  refine g_calliP (g_S (As := [.int x, .int 0, .int 127]) (rest := []) hC msX8_in q2984 (met_T_in l G M x 0 127) ⟨rfl, rfl⟩ ⟨(Nat.le_of_ble_eq_true rfl), (Nat.le_of_ble_eq_true rfl)⟩ rfl (Nat.le_of_ble_eq_true rfl) dX8_append_4 rfl ⟨(Nat.le_of_ble_eq_true rfl), (Nat.le_of_ble_eq_true rfl)⟩) 7 rfl 0 (Nat.le_of_ble_eq_true rfl) ?_
  refine g_if_ne hC dX8_append_7 13 rfl 10 rfl (fun c_1 => ?_) (fun c_1 => ?_)
  · replace c_1 := bId_1 c_1
    exact absurd c_1 hx
  · replace c_1 := bId_0 c_1
    refine g_bipush hC dX8_append_10 kb_m2 12 rfl ?_
    exact g_iret (v := -2) hC (fun k9 hk9 => ⟨rfl, rfl, Nat.le_zero.mp hk9⟩) dX8_append_12 (Nat.le_of_ble_eq_true rfl) (Nat.le_of_ble_eq_true rfl)
set_option maxHeartbeats 4000000 in
theorem met_T_append_f (l : Launch) (G : gG) (M : gM) (o : Nat) (av : Nat) (asp : Nat) (ak : Nat) (aik : Nat) (atx : Nat) (lc : Nat) (am : Nat) (mn : Int32) (aa : Nat) (pc_ : Nat) (ato : Nat) (tx : Nat → Int32) (x : Int32) (hx : 0 ≤ x ∧ x ≤ 127) (hf : lc = 120) (hM_0 : M o = some ((1, 0), .inr (7, [.ref av, .ref asp, .ref ak, .ref aik, .ref atx, .int (nI lc), .ref am, .int mn, .ref aa, .int (nI pc_), .ref ato]))) (hM_1 : M atx = some ((1, 5), .inl (gcs G 0, 120, .inl tx))) : Met l yX8_append (ws_ yX8_append cX8_append 2 (some .int)) ({ frames := 1, cells := 0, slots := 0, locals := 22 }) (gPc G [.ref o, .int x] M) (gQi G (fun r9 M9 k9 => r9 = (-3) ∧ M9 = M ∧ k9 = 0)) 0 0 (gA G) := by
  refine gMet [(0, .ref o), (1, .int x)] (by decide) (Nat.le_of_ble_eq_true rfl) rfl ?_
  intro p e s m below meth c hC
  refine g_iload_n hC dX8_append_0 1 rfl 1 rfl ?_
  refine g_iconst hC dX8_append_1 ki_0 2 rfl ?_
  refine g_bipush hC dX8_append_2 kb_127 4 rfl ?_
  refine g_calliP (g_S (As := [.int x, .int 0, .int 127]) (rest := []) hC msX8_in q2984 (met_T_in l G M x 0 127) ⟨rfl, rfl⟩ ⟨(Nat.le_of_ble_eq_true rfl), (Nat.le_of_ble_eq_true rfl)⟩ rfl (Nat.le_of_ble_eq_true rfl) dX8_append_4 rfl ⟨(Nat.le_of_ble_eq_true rfl), (Nat.le_of_ble_eq_true rfl)⟩) 7 rfl 0 (Nat.le_of_ble_eq_true rfl) ?_
  refine g_if_ne hC dX8_append_7 13 rfl 10 rfl (fun c_1 => ?_) (fun c_1 => ?_)
  · replace c_1 := bId_1 c_1
    refine g_aload_n hC dX8_append_13 0 rfl gRef_r 14 rfl ?_
    refine g_get (v := .int (nI lc)) hC cI7 hM_0 5 (Nat.le_of_ble_eq_true rfl) q2947 rfl dX8_append_14 17 rfl ?_
    refine g_bipush hC dX8_append_17 kb_120 19 rfl ?_
    refine g_icmp_ne hC dX8_append_19 25 rfl 22 rfl (fun c_2 => ?_) (fun c_2 => ?_)
    · replace c_2 : ¬ lc = 120 := nn_neq (by omega) (by omega) c_2
      exact absurd hf c_2
    · replace c_2 : lc = 120 := nn_eq (by omega) (by omega) c_2
      refine g_bipush hC dX8_append_22 kb_m3 24 rfl ?_
      exact g_iret (v := -3) hC (fun k9 hk9 => ⟨rfl, rfl, Nat.le_zero.mp hk9⟩) dX8_append_24 (Nat.le_of_ble_eq_true rfl) (Nat.le_of_ble_eq_true rfl)
  · replace c_1 := bId_0 c_1
    exact absurd hx c_1
set_option maxHeartbeats 4000000 in
theorem met_T_append (l : Launch) (G : gG) (M : gM) (o : Nat) (av : Nat) (asp : Nat) (ak : Nat) (aik : Nat) (atx : Nat) (lc : Nat) (am : Nat) (mn : Int32) (aa : Nat) (pc_ : Nat) (ato : Nat) (tx : Nat → Int32) (x : Int32) (hx : 0 ≤ x ∧ x ≤ 127) (hf : lc < 120) (hM_0 : M o = some ((1, 0), .inr (7, [.ref av, .ref asp, .ref ak, .ref aik, .ref atx, .int (nI lc), .ref am, .int mn, .ref aa, .int (nI pc_), .ref ato]))) (hM_1 : M atx = some ((1, 5), .inl (gcs G 0, 120, .inl tx))) : Met l yX8_append (ws_ yX8_append cX8_append 2 (some .int)) ({ frames := 1, cells := 0, slots := 0, locals := 22 }) (gPc G [.ref o, .int x] M) (gQi G (fun r9 M9 k9 => r9 = (nI (lc + 1)) ∧ M9 o = some ((1, 0), .inr (7, [.ref av, .ref asp, .ref ak, .ref aik, .ref atx, .int (nI (lc + 1)), .ref am, .int mn, .ref aa, .int (nI pc_), .ref ato])) ∧ M9 atx = some ((1, 5), .inl (gcs G 0, 120, .inl (upd tx lc x))) ∧ gFr (gL [o, atx]) M M9 ∧ k9 = 0)) 0 0 (gA G) := by
  refine gMet [(0, .ref o), (1, .int x)] (by decide) (Nat.le_of_ble_eq_true rfl) rfl ?_
  intro p e s m below meth c hC
  refine g_iload_n hC dX8_append_0 1 rfl 1 rfl ?_
  refine g_iconst hC dX8_append_1 ki_0 2 rfl ?_
  refine g_bipush hC dX8_append_2 kb_127 4 rfl ?_
  refine g_calliP (g_S (As := [.int x, .int 0, .int 127]) (rest := []) hC msX8_in q2984 (met_T_in l G M x 0 127) ⟨rfl, rfl⟩ ⟨(Nat.le_of_ble_eq_true rfl), (Nat.le_of_ble_eq_true rfl)⟩ rfl (Nat.le_of_ble_eq_true rfl) dX8_append_4 rfl ⟨(Nat.le_of_ble_eq_true rfl), (Nat.le_of_ble_eq_true rfl)⟩) 7 rfl 0 (Nat.le_of_ble_eq_true rfl) ?_
  refine g_if_ne hC dX8_append_7 13 rfl 10 rfl (fun c_1 => ?_) (fun c_1 => ?_)
  · replace c_1 := bId_1 c_1
    refine g_aload_n hC dX8_append_13 0 rfl gRef_r 14 rfl ?_
    refine g_get (v := .int (nI lc)) hC cI7 hM_0 5 (Nat.le_of_ble_eq_true rfl) q2947 rfl dX8_append_14 17 rfl ?_
    refine g_bipush hC dX8_append_17 kb_120 19 rfl ?_
    refine g_icmp_ne hC dX8_append_19 25 rfl 22 rfl (fun c_2 => ?_) (fun c_2 => ?_)
    · replace c_2 : ¬ lc = 120 := nn_neq (by omega) (by omega) c_2
      refine g_aload_n hC dX8_append_25 0 rfl gRef_r 26 rfl ?_
      refine g_get (v := .ref atx) hC cI7 hM_0 4 (Nat.le_of_ble_eq_true rfl) q2946 rfl dX8_append_26 29 rfl ?_
      refine g_aload_n hC dX8_append_29 0 rfl gRef_r 30 rfl ?_
      refine g_get (v := .int (nI lc)) hC cI7 hM_0 5 (Nat.le_of_ble_eq_true rfl) q2947 rfl dX8_append_30 33 rfl ?_
      refine g_iload_n hC dX8_append_33 1 rfl 34 rfl ?_
      refine g_iast hC hM_1 0 rfl (vp_in_nI (by omega) (by omega)) lc (nI_clamp (by omega)) dX8_append_34 35 rfl (fun M3 hU4 => ?_)
      obtain ⟨F5, eF6⟩ : ∃ z9, z9 = upd tx lc x := ⟨_, rfl⟩
      rw [← eF6] at hU4
      refine g_aload_n hC dX8_append_35 0 rfl gRef_r 36 rfl ?_
      refine g_dup hC dX8_append_36 rfl 37 rfl ?_
      refine g_get (v := .int (nI lc)) hC cI7 (hU4.n (gne_oa hM_0 hM_1) hM_0) 5 (Nat.le_of_ble_eq_true rfl) q2947 rfl dX8_append_37 40 rfl ?_
      refine g_iconst hC dX8_append_40 ki_1 41 rfl ?_
      refine g_iadd hC dX8_append_41 42 rfl ?_
      refine g_topi (y := nI (lc + 1)) (nI_a (a := lc) (b := 1) (c := (lc + 1)) (by omega)) ?_
      refine g_put hC cI7 (hU4.n (gne_oa hM_0 hM_1) hM_0) 5 (Nat.le_of_ble_eq_true rfl) q2947 rfl rfl rfl (Nat.le_of_ble_eq_true rfl) dX8_append_42 (fs' := [.ref av, .ref asp, .ref ak, .ref aik, .ref atx, .int (nI (lc + 1)), .ref am, .int mn, .ref aa, .int (nI pc_), .ref ato]) rfl 45 rfl (fun M7 hU8 => ?_)
      refine g_aload_n hC dX8_append_45 0 rfl gRef_r 46 rfl ?_
      refine g_get (v := .int (nI (lc + 1))) hC cI7 hU8.1 5 (Nat.le_of_ble_eq_true rfl) q2947 rfl dX8_append_46 49 rfl ?_
      exact g_iret (v := nI (lc + 1)) hC (fun k9 hk9 => ⟨rfl, hU8.1, (by rw [(hU8.n (gne_ao hU4.1 (hU4.n (gne_oa hM_0 hM_1) hM_0)) hU4.1), eF6]), ((gFr.refl.up hU4 hM_1 (by simp)).up hU8 (hU4.n (gne_oa hM_0 hM_1) hM_0) (by simp)), (by first | exact Nat.le_zero.mp hk9 | omega)⟩) dX8_append_49 (Nat.le_of_ble_eq_true rfl) (Nat.le_of_ble_eq_true rfl)
    · replace c_2 : lc = 120 := nn_eq (by omega) (by omega) c_2
      exact absurd c_2 (by omega)
  · replace c_1 := bId_0 c_1
    exact absurd hx c_1
set_option maxHeartbeats 4000000 in
theorem met_T_clearText (l : Launch) (G : gG) (M : gM) (o : Nat) (av : Nat) (asp : Nat) (ak : Nat) (aik : Nat) (atx : Nat) (lc : Nat) (am : Nat) (mn : Int32) (aa : Nat) (pc_ : Nat) (ato : Nat) (tx : Nat → Int32)  (hM_0 : M o = some ((1, 0), .inr (7, [.ref av, .ref asp, .ref ak, .ref aik, .ref atx, .int (nI lc), .ref am, .int mn, .ref aa, .int (nI pc_), .ref ato]))) (hM_1 : M atx = some ((1, 5), .inl (gcs G 0, 120, .inl tx))) : Met l yX8_clearText (ws_ yX8_clearText cX8_clearText 2 (some .int)) ({ frames := 0, cells := 0, slots := 0, locals := 0 }) (gPc G [.ref o] M) (gQi G (fun r9 M9 k9 => r9 = (nI lc) ∧ M9 o = some ((1, 0), .inr (7, [.ref av, .ref asp, .ref ak, .ref aik, .ref atx, .int 0, .ref am, .int mn, .ref aa, .int (nI pc_), .ref ato])) ∧ gFr (gL [o]) M M9 ∧ k9 = 0)) 0 0 (gA G) := by
  refine gMet [(0, .ref o)] (by decide) (Nat.le_of_ble_eq_true rfl) rfl ?_
  intro p e s m below meth c hC
  refine g_aload_n hC dX8_clearText_0 0 rfl gRef_r 1 rfl ?_
  refine g_get (v := .int (nI lc)) hC cI7 hM_0 5 (Nat.le_of_ble_eq_true rfl) q2947 rfl dX8_clearText_1 4 rfl ?_
  refine g_istore_n hC dX8_clearText_4 rfl (Nat.le_of_ble_eq_true rfl) [(1, .int (nI lc)), (0, .ref o)] rfl 5 rfl ?_
  refine g_aload_n hC dX8_clearText_5 1 rfl gRef_r 6 rfl ?_
  refine g_iconst hC dX8_clearText_6 ki_0 7 rfl ?_
  refine g_put hC cI7 hM_0 5 (Nat.le_of_ble_eq_true rfl) q2947 rfl rfl rfl (Nat.le_of_ble_eq_true rfl) dX8_clearText_7 (fs' := [.ref av, .ref asp, .ref ak, .ref aik, .ref atx, .int 0, .ref am, .int mn, .ref aa, .int (nI pc_), .ref ato]) rfl 10 rfl (fun M1 hU2 => ?_)
  refine g_iload_n hC dX8_clearText_10 0 rfl 11 rfl ?_
  exact g_iret (v := nI lc) hC (fun k9 hk9 => ⟨rfl, hU2.1, (gFr.refl.up hU2 hM_0 (by simp)), (by first | exact Nat.le_zero.mp hk9 | omega)⟩) dX8_clearText_11 (Nat.le_of_ble_eq_true rfl) (Nat.le_of_ble_eq_true rfl)
def hereT (tx : Nat → Int32) (lc q : Nat) : Int32 := if lc ≤ q then -1 else tx q
set_option maxHeartbeats 4000000 in
theorem met_T_here (l : Launch) (G : gG) (M : gM) (o : Nat) (av : Nat) (asp : Nat) (ak : Nat) (aik : Nat) (atx : Nat) (lc : Nat) (am : Nat) (mn : Int32) (aa : Nat) (pc_ : Nat) (ato : Nat) (tx : Nat → Int32) (hlc : lc ≤ 120) (hq : pc_ ≤ 200) (hM_0 : M o = some ((1, 0), .inr (7, [.ref av, .ref asp, .ref ak, .ref aik, .ref atx, .int (nI lc), .ref am, .int mn, .ref aa, .int (nI pc_), .ref ato]))) (hM_1 : M atx = some ((1, 5), .inl (gcs G 0, 120, .inl tx))) : Met l yX8_here (ws_ yX8_here cX8_here 1 (some .int)) ({ frames := 0, cells := 0, slots := 0, locals := 0 }) (gPc G [.ref o] M) (gQi G (fun r9 M9 k9 => r9 = (hereT tx lc pc_) ∧ M9 = M ∧ k9 = 0)) 0 0 (gA G) := by
  refine gMet [(0, .ref o)] (by decide) (Nat.le_of_ble_eq_true rfl) rfl ?_
  intro p e s m below meth c hC
  refine g_aload_n hC dX8_here_0 0 rfl gRef_r 1 rfl ?_
  refine g_get (v := .int (nI pc_)) hC cI7 hM_0 9 (Nat.le_of_ble_eq_true rfl) q2951 rfl dX8_here_1 4 rfl ?_
  refine g_aload_n hC dX8_here_4 0 rfl gRef_r 5 rfl ?_
  refine g_get (v := .int (nI lc)) hC cI7 hM_0 5 (Nat.le_of_ble_eq_true rfl) q2947 rfl dX8_here_5 8 rfl ?_
  refine g_icmp_ge hC dX8_here_8 23 rfl 11 rfl (fun c_1 => ?_) (fun c_1 => ?_)
  · replace c_1 : lc ≤ pc_ := nn_le (by omega) (by omega) c_1
    refine g_iconst hC dX8_here_23 ki_m1 24 rfl ?_
    exact g_iret (v := -1) hC (fun k9 hk9 => ⟨(by simp only [hereT]; split <;> first | rfl | omega), rfl, Nat.le_zero.mp hk9⟩) dX8_here_24 (Nat.le_of_ble_eq_true rfl) (Nat.le_of_ble_eq_true rfl)
  · replace c_1 : pc_ < lc := nn_nle (by omega) (by omega) c_1
    refine g_aload_n hC dX8_here_11 0 rfl gRef_r 12 rfl ?_
    refine g_get (v := .ref atx) hC cI7 hM_0 4 (Nat.le_of_ble_eq_true rfl) q2946 rfl dX8_here_12 15 rfl ?_
    refine g_aload_n hC dX8_here_15 0 rfl gRef_r 16 rfl ?_
    refine g_get (v := .int (nI pc_)) hC cI7 hM_0 9 (Nat.le_of_ble_eq_true rfl) q2951 rfl dX8_here_16 19 rfl ?_
    refine g_iald (v := tx pc_) hC hM_1 0 rfl (vp_in_nI (by omega) (by omega)) ((congrArg tx (nI_clamp (by omega))).trans rfl) dX8_here_19 20 rfl ?_
    refine g_goto hC dX8_here_20 24 rfl ?_
    exact g_iret (v := tx pc_) hC (fun k9 hk9 => ⟨(by simp only [hereT]; split <;> first | rfl | omega), rfl, Nat.le_zero.mp hk9⟩) dX8_here_24 (Nat.le_of_ble_eq_true rfl) (Nat.le_of_ble_eq_true rfl)
