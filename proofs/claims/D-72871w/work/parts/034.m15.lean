/-! the reference: predictions, checksum, its making -/
set_option maxRecDepth 100000
theorem cpy_u {g f : Nat → Int32} {n : Nat} : upd (cpy g f 0 0 n) n (f n) = cpy g f 0 0 (n + 1) := by
  have := cpy_s (g := g) (f := f) (d := 0) (s := 0) (n := n)
  rw [Nat.zero_add] at this
  exact this
theorem psT_hi : ∀ (j i n : Nat) (F : Nat → Int32) (q : Nat), n ≤ i → i + j ≤ 8 → 1310 ≤ q → (psT j i n F).1 q = F q
  | 0, _, _, _, _, _, _, _ => rfl
  | j + 1, i, n, F, q, h1, h2, h3 => by
    unfold psT
    split
    · exact psT_hi j (i + 1) n F q (by omega) (by omega) h3
    · rw [psT_hi j (i + 1) (n + 1) _ q (by omega) (by omega) h3, pk_un (by omega), pk_un (by omega)]
theorem T_bit_hi {f : Nat → Int32} (hok : okAll f) {q : Nat} (hq : 1310 ≤ q) : T_bit f q = f q := by
  unfold T_bit T_bitV T_pass
  have hP := PB.init hok.1 rfl rfl rfl rfl
  have o0 := PB.ok (hP 0 (by omega)) (hok.1 0 (by omega))
  have o1 := fun s => PB.ok ((hP 1 (by omega)).acts (s := s) o0 (by omega)) (hok.1 1 (by omega))
  have o2 := fun s t => PB.ok (((hP 2 (by omega)).acts (s := s) o0 (by omega)).acts (s := t) (o1 s) (by omega)) (hok.1 2 (by omega))
  have o3 := fun s t u => PB.ok ((((hP 3 (by omega)).acts (s := s) o0 (by omega)).acts (s := t) (o1 s) (by omega)).acts (s := u) (o2 s t) (by omega)) (hok.1 3 (by omega))
  rw [pk_un (by omega), psT_hi _ _ _ _ _ (by omega) (by have := hok.2.1.2; omega) hq, pk_un (by omega), pk_un (by omega), loc_acts (o3 _ _ _) _ (by omega), loc_acts (o2 _ _) _ (by omega), loc_acts (o1 _) _ (by omega), loc_acts o0 _ (by omega), pk_un (by omega), pk_un (by omega), pk_un (by omega), pk_un (by omega)]
theorem cpy_back {f F sp : Nat → Int32} (h : ∀ q, 1310 ≤ q → F q = f q) : cpy F (cpy sp f 0 0 1310) 0 0 1310 = f := by
  funext j
  unfold cpy
  by_cases hj : j < 1310
  · rw [if_pos (by omega), if_pos (by omega)]; congr 1; omega
  · rw [if_neg (by omega)]; exact h j (by omega)
set_option maxHeartbeats 4000000 in
theorem met_T_bitsUntilSent_n (l : Launch) (G : gG) (M : gM) (o : Nat) (av : Nat) (asp : Nat) (ak : Nat) (aik : Nat) (atx : Nat) (le : Int32) (am : Nat) (mn : Int32) (aa : Nat) (pl : Int32) (ato : Nat) (f : Nat → Int32) (x : Int32) (hx : ¬ (0 ≤ x ∧ x ≤ 3)) (hM_0 : M o = some ((1, 0), .inr (7, [.ref av, .ref asp, .ref ak, .ref aik, .ref atx, .int le, .ref am, .int mn, .ref aa, .int pl, .ref ato]))) (hM_1 : M av = some ((1, 1), .inl (gcs G 0, 1310, .inl f))) : Met l yX8_bitsUntilSent (ws_ yX8_bitsUntilSent cX8_bitsUntilSent 6 (some .int)) ({ frames := 2, cells := 0, slots := 0, locals := 42 }) (gPc G [.ref o, .int x] M) (gQi G (fun r9 M9 k9 => r9 = (-1) ∧ M9 = M ∧ k9 = 0)) 0 0 (gA G) := by
  refine gMet [(0, .ref o), (1, .int x)] (by decide) (Nat.le_of_ble_eq_true rfl) rfl ?_
  intro p e s m below meth c hC
  refine g_iload_n hC dX8_bitsUntilSent_0 1 rfl 1 rfl ?_
  refine g_calliP (g_S (As := [.int x]) (rest := []) hC msX8_isNode q3023 (met_T_isNode l G M x) ⟨rfl, rfl⟩ ⟨(Nat.le_of_ble_eq_true rfl), (Nat.le_of_ble_eq_true rfl)⟩ rfl (Nat.le_of_ble_eq_true rfl) dX8_bitsUntilSent_1 rfl ⟨(Nat.le_of_ble_eq_true rfl), (Nat.le_of_ble_eq_true rfl)⟩) 4 rfl 0 (Nat.le_of_ble_eq_true rfl) ?_
  refine g_if_ne hC dX8_bitsUntilSent_4 9 rfl 7 rfl (fun c_1 => ?_) (fun c_1 => ?_)
  · replace c_1 := bId_1 c_1
    exact absurd c_1 hx
  · replace c_1 := bId_0 c_1
    refine g_iconst hC dX8_bitsUntilSent_7 ki_m1 8 rfl ?_
    exact g_iret (v := -1) hC (fun k9 hk9 => ⟨rfl, rfl, Nat.le_zero.mp hk9⟩) dX8_bitsUntilSent_8 (Nat.le_of_ble_eq_true rfl) (Nat.le_of_ble_eq_true rfl)
set_option maxHeartbeats 4000000 in
theorem met_T_bitsUntilSent (l : Launch) (G : gG) (M : gM) (o : Nat) (av : Nat) (asp : Nat) (ak : Nat) (aik : Nat) (atx : Nat) (le : Int32) (am : Nat) (mn : Int32) (aa : Nat) (pl : Int32) (ato : Nat) (f : Nat → Int32) (sp : Nat → Int32) (k : Nat) (hk : k < 4) (hok : ∀ i, i < 1000 → okAll (T_bits f i)) (hM_0 : M o = some ((1, 0), .inr (7, [.ref av, .ref asp, .ref ak, .ref aik, .ref atx, .int le, .ref am, .int mn, .ref aa, .int pl, .ref ato]))) (hM_1 : M av = some ((1, 1), .inl (gcs G 0, 1310, .inl f))) (hM_2 : M asp = some ((1, 2), .inl (gcs G 0, 1310, .inl sp))) : Met l yX8_bitsUntilSent (ws_ yX8_bitsUntilSent cX8_bitsUntilSent 6 (some .int)) ({ frames := 8, cells := 0, slots := 0, locals := 180 }) (gPc G [.ref o, .int (nI k)] M) (gQi G (fun r9 M9 k9 => r9 = (if (busT k (f (256 * k + 14)) 1000 0 f).1 (256 * k + 14) ≤ f (256 * k + 14) then -5 else nI (busT k (f (256 * k + 14)) 1000 0 f).2) ∧ M9 av = some ((1, 1), .inl (gcs G 0, 1310, .inl f)) ∧ M9 asp = some ((1, 2), .inl (gcs G 0, 1310, .inl (cpy sp f 0 0 1310))) ∧ gFr (gL [av, asp]) M M9 ∧ k9 = 0)) 0 0 (gA G) := by
  refine gMet [(0, .ref o), (1, .int (nI k))] (by decide) (Nat.le_of_ble_eq_true rfl) rfl ?_
  intro p e s m below meth c hC
  refine g_iload_n hC dX8_bitsUntilSent_0 1 rfl 1 rfl ?_
  refine g_calliP (g_S (As := [.int (nI k)]) (rest := []) hC msX8_isNode q3023 (met_T_isNode l G M (nI k)) ⟨rfl, rfl⟩ ⟨(Nat.le_of_ble_eq_true rfl), (Nat.le_of_ble_eq_true rfl)⟩ rfl (Nat.le_of_ble_eq_true rfl) dX8_bitsUntilSent_1 rfl ⟨(Nat.le_of_ble_eq_true rfl), (Nat.le_of_ble_eq_true rfl)⟩) 4 rfl 0 (Nat.le_of_ble_eq_true rfl) ?_
  refine g_if_ne hC dX8_bitsUntilSent_4 9 rfl 7 rfl (fun c_1 => ?_) (fun c_1 => ?_)
  · replace c_1 := bId_1 c_1
    refine g_iconst hC dX8_bitsUntilSent_9 ki_0 10 rfl ?_
    refine g_istore_n hC dX8_bitsUntilSent_10 rfl (Nat.le_of_ble_eq_true rfl) [(2, .int 0), (0, .ref o), (1, .int (nI k))] rfl 11 rfl ?_
    have loop11 : ∀ (n9 : Nat) (i : Nat) (S : Nat → Int32) (ML : gM), (hi : i ≤ 1310) → (hS : S = cpy sp f 0 0 i) → 1310 - i < n9 → (ML o = some ((1, 0), .inr (7, [.ref av, .ref asp, .ref ak, .ref aik, .ref atx, .int le, .ref am, .int mn, .ref aa, .int pl, .ref ato]))) → (ML av = some ((1, 1), .inl (gcs G 0, 1310, .inl f))) → (ML asp = some ((1, 2), .inl (gcs G 0, 1310, .inl S))) → gFr (gL [av, asp]) M ML → gJ p l e ({ frames := 8, cells := 0, slots := 0, locals := 180 } : Room) s m ([.ref o, .int (nI k)] : List Value).toArray below meth c G 6 (MQ below (gQi G (fun r9 M9 k9 => r9 = (if (busT k (f (256 * k + 14)) 1000 0 f).1 (256 * k + 14) ≤ f (256 * k + 14) then -5 else nI (busT k (f (256 * k + 14)) 1000 0 f).2) ∧ M9 av = some ((1, 1), .inl (gcs G 0, 1310, .inl f)) ∧ M9 asp = some ((1, 2), .inl (gcs G 0, 1310, .inl (cpy sp f 0 0 1310))) ∧ gFr (gL [av, asp]) M M9 ∧ k9 = 0)) ([.ref o, .int (nI k)] : List Value).toArray s 0 0 (gA G)) 0 0 ML 11 [(0, .ref o), (1, .int (nI k)), (2, .int (nI i))] [] := by
      intro n9
      induction n9 with
      | zero => intro i S ML hi hS hmu; exact absurd hmu (Nat.not_lt_zero _)
      | succ n9 ih =>
        intro i S ML hi hS hmu hL_0 hL_1 hL_2 hLF
        refine g_iload_n hC dX8_bitsUntilSent_11 2 rfl 12 rfl ?_
        refine g_sipush hC dX8_bitsUntilSent_12 ks_1310 15 rfl ?_
        refine g_icmp_ge hC dX8_bitsUntilSent_15 36 rfl 18 rfl (fun c_2 => ?_) (fun c_2 => ?_)
        · replace c_2 : 1310 ≤ i := nn_le (by omega) (by omega) c_2
          obtain rfl : S = cpy sp f 0 0 1310 := by rw [hS, show i = 1310 by omega]
          clear hS
          refine g_aload_n hC dX8_bitsUntilSent_36 0 rfl gRef_r 37 rfl ?_
          refine g_get (v := .ref av) hC cI7 hL_0 0 (Nat.le_of_ble_eq_true rfl) q2942 rfl dX8_bitsUntilSent_37 40 rfl ?_
          refine g_iload_n hC dX8_bitsUntilSent_40 1 rfl 41 rfl ?_
          refine g_bipush hC dX8_bitsUntilSent_41 kb_14 43 rfl ?_
          refine g_calliP (g_S (As := [.int (nI k), .int 14]) (rest := [.ref av]) hC msX8_at q2939 (met_T_at l G ML k 14) ⟨rfl, rfl⟩ ⟨(Nat.le_of_ble_eq_true rfl), (Nat.le_of_ble_eq_true rfl)⟩ rfl (Nat.le_of_ble_eq_true rfl) dX8_bitsUntilSent_43 rfl ⟨(Nat.le_of_ble_eq_true rfl), (Nat.le_of_ble_eq_true rfl)⟩) 46 rfl 0 (Nat.le_of_ble_eq_true rfl) ?_
          refine g_iald (v := f (256 * k + 14)) hC hL_1 0 rfl (vp_in_nI (by omega) (by omega)) ((congrArg f (nI_clamp (by omega))).trans rfl) dX8_bitsUntilSent_46 47 rfl ?_
          refine g_istore_n hC dX8_bitsUntilSent_47 rfl (Nat.le_of_ble_eq_true rfl) [(2, .int (f (256 * k + 14))), (0, .ref o), (1, .int (nI k))] rfl 48 rfl ?_
          refine g_iconst hC dX8_bitsUntilSent_48 ki_0 49 rfl ?_
          refine g_istore_n hC dX8_bitsUntilSent_49 rfl (Nat.le_of_ble_eq_true rfl) [(3, .int 0), (2, .int (f (256 * k + 14))), (0, .ref o), (1, .int (nI k))] rfl 50 rfl ?_
          have loop50 : ∀ (n9 : Nat) (i : Nat) (F : Nat → Int32) (ML : gM), (hi : i ≤ 1000) → (hF : F = T_bits f i) → (hh : ∀ q, 1310 ≤ q → F q = f q) → (hr : busT k (f (256 * k + 14)) (1000 - i) i F = busT k (f (256 * k + 14)) 1000 0 f) → 1000 - i < n9 → (ML o = some ((1, 0), .inr (7, [.ref av, .ref asp, .ref ak, .ref aik, .ref atx, .int le, .ref am, .int mn, .ref aa, .int pl, .ref ato]))) → (ML av = some ((1, 1), .inl (gcs G 0, 1310, .inl F))) → (ML asp = some ((1, 2), .inl (gcs G 0, 1310, .inl (cpy sp f 0 0 1310)))) → gFr (gL [av, asp]) M ML → gJ p l e ({ frames := 8, cells := 0, slots := 0, locals := 180 } : Room) s m ([.ref o, .int (nI k)] : List Value).toArray below meth c G 6 (MQ below (gQi G (fun r9 M9 k9 => r9 = (if (busT k (f (256 * k + 14)) 1000 0 f).1 (256 * k + 14) ≤ f (256 * k + 14) then -5 else nI (busT k (f (256 * k + 14)) 1000 0 f).2) ∧ M9 av = some ((1, 1), .inl (gcs G 0, 1310, .inl f)) ∧ M9 asp = some ((1, 2), .inl (gcs G 0, 1310, .inl (cpy sp f 0 0 1310))) ∧ gFr (gL [av, asp]) M M9 ∧ k9 = 0)) ([.ref o, .int (nI k)] : List Value).toArray s 0 0 (gA G)) 0 0 ML 50 [(0, .ref o), (1, .int (nI k)), (2, .int (f (256 * k + 14))), (3, .int (nI i))] [] := by
            intro n9
            induction n9 with
            | zero => intro i F ML hi hF hh hr hmu; exact absurd hmu (Nat.not_lt_zero _)
            | succ n9 ih =>
              intro i F ML hi hF hh hr hmu hL_0 hL_1 hL_2 hLF
              refine g_iload_n hC dX8_bitsUntilSent_50 3 rfl 51 rfl ?_
              refine g_sipush hC dX8_bitsUntilSent_51 ks_1000 54 rfl ?_
              refine g_icmp_ge hC dX8_bitsUntilSent_54 82 rfl 57 rfl (fun c_3 => ?_) (fun c_3 => ?_)
              · replace c_3 : 1000 ≤ i := nn_le (by omega) (by omega) c_3
                have hq : busT k (f (256 * k + 14)) 1000 0 f = (F, i) := (by rw [← hr, show 1000 - i = 0 by omega]; rfl)
                refine g_aload_n hC dX8_bitsUntilSent_82 0 rfl gRef_r 83 rfl ?_
                refine g_get (v := .ref av) hC cI7 hL_0 0 (Nat.le_of_ble_eq_true rfl) q2942 rfl dX8_bitsUntilSent_83 86 rfl ?_
                refine g_iload_n hC dX8_bitsUntilSent_86 1 rfl 87 rfl ?_
                refine g_bipush hC dX8_bitsUntilSent_87 kb_14 89 rfl ?_
                refine g_calliP (g_S (As := [.int (nI k), .int 14]) (rest := [.ref av]) hC msX8_at q2939 (met_T_at l G ML k 14) ⟨rfl, rfl⟩ ⟨(Nat.le_of_ble_eq_true rfl), (Nat.le_of_ble_eq_true rfl)⟩ rfl (Nat.le_of_ble_eq_true rfl) dX8_bitsUntilSent_89 rfl ⟨(Nat.le_of_ble_eq_true rfl), (Nat.le_of_ble_eq_true rfl)⟩) 92 rfl 0 (Nat.le_of_ble_eq_true rfl) ?_
                refine g_iald (v := F (256 * k + 14)) hC hL_1 0 rfl (vp_in_nI (by omega) (by omega)) ((congrArg F (nI_clamp (by omega))).trans rfl) dX8_bitsUntilSent_92 93 rfl ?_
                refine g_iload_n hC dX8_bitsUntilSent_93 2 rfl 94 rfl ?_
                refine g_icmp_le hC dX8_bitsUntilSent_94 101 rfl 97 rfl (fun c_4 => ?_) (fun c_4 => ?_)
                · refine g_iconst hC dX8_bitsUntilSent_101 ki_0 102 rfl ?_
                  refine g_istore hC dX8_bitsUntilSent_102 (Nat.le_of_ble_eq_true rfl) [(4, .int 0), (0, .ref o), (1, .int (nI k)), (2, .int (f (256 * k + 14))), (3, .int (nI i))] rfl 104 rfl ?_
                  refine g_iconst hC dX8_bitsUntilSent_104 ki_0 105 rfl ?_
                  refine g_istore hC dX8_bitsUntilSent_105 (Nat.le_of_ble_eq_true rfl) [(5, .int 0), (4, .int 0), (0, .ref o), (1, .int (nI k)), (2, .int (f (256 * k + 14))), (3, .int (nI i))] rfl 107 rfl ?_
                  have loop107 : ∀ (n9 : Nat) (j : Nat) (E : Nat → Int32) (zz : Int32) (ML : gM), (hj : j ≤ 1310) → (hE : E = cpy F (cpy sp f 0 0 1310) 0 0 j) → (hzz : zz = if F (256 * k + 14) ≤ f (256 * k + 14) then 0 else 1) → 1310 - j < n9 → (ML o = some ((1, 0), .inr (7, [.ref av, .ref asp, .ref ak, .ref aik, .ref atx, .int le, .ref am, .int mn, .ref aa, .int pl, .ref ato]))) → (ML av = some ((1, 1), .inl (gcs G 0, 1310, .inl E))) → (ML asp = some ((1, 2), .inl (gcs G 0, 1310, .inl (cpy sp f 0 0 1310)))) → gFr (gL [av, asp]) M ML → gJ p l e ({ frames := 8, cells := 0, slots := 0, locals := 180 } : Room) s m ([.ref o, .int (nI k)] : List Value).toArray below meth c G 6 (MQ below (gQi G (fun r9 M9 k9 => r9 = (if (busT k (f (256 * k + 14)) 1000 0 f).1 (256 * k + 14) ≤ f (256 * k + 14) then -5 else nI (busT k (f (256 * k + 14)) 1000 0 f).2) ∧ M9 av = some ((1, 1), .inl (gcs G 0, 1310, .inl f)) ∧ M9 asp = some ((1, 2), .inl (gcs G 0, 1310, .inl (cpy sp f 0 0 1310))) ∧ gFr (gL [av, asp]) M M9 ∧ k9 = 0)) ([.ref o, .int (nI k)] : List Value).toArray s 0 0 (gA G)) 0 0 ML 107 [(0, .ref o), (1, .int (nI k)), (3, .int (nI i)), (4, .int zz), (5, .int (nI j))] [] := by
                    intro n9
                    induction n9 with
                    | zero => intro j E zz ML hj hE hzz hmu; exact absurd hmu (Nat.not_lt_zero _)
                    | succ n9 ih =>
                      intro j E zz ML hj hE hzz hmu hL_0 hL_1 hL_2 hLF
                      refine g_iload hC dX8_bitsUntilSent_107 4 rfl 109 rfl ?_
                      refine g_sipush hC dX8_bitsUntilSent_109 ks_1310 112 rfl ?_
                      refine g_icmp_ge hC dX8_bitsUntilSent_112 135 rfl 115 rfl (fun c_5 => ?_) (fun c_5 => ?_)
                      · replace c_5 : 1310 ≤ j := nn_le (by omega) (by omega) c_5
                        refine g_iload hC dX8_bitsUntilSent_135 3 rfl 137 rfl ?_
                        refine g_if_eq hC dX8_bitsUntilSent_137 144 rfl 140 rfl (fun c_6 => ?_) (fun c_6 => ?_)
                        · refine g_bipush hC dX8_bitsUntilSent_144 kb_m5 146 rfl ?_
                          exact g_iret (v := -5) hC (fun k9 hk9 => ⟨(by rw [hq]; have hz := c_6; rw [hzz] at hz; rcases Decidable.em (F (256 * k + 14) ≤ f (256 * k + 14)) with hc | hc <;> first | (rw [if_pos hc] at hz; first | exact absurd rfl hz | exact (if_pos hc).symm) | (rw [if_neg hc] at hz; first | exact absurd hz (by decide) | exact (if_neg hc).symm)), (by rw [hL_1, hE, show j = 1310 by omega, cpy_back hh]), hL_2, hLF, (by first | exact Nat.le_zero.mp hk9 | omega)⟩) dX8_bitsUntilSent_146 (Nat.le_of_ble_eq_true rfl) (Nat.le_of_ble_eq_true rfl)
                        · refine g_iload_n hC dX8_bitsUntilSent_140 2 rfl 141 rfl ?_
                          refine g_goto hC dX8_bitsUntilSent_141 146 rfl ?_
                          exact g_iret (v := nI i) hC (fun k9 hk9 => ⟨(by rw [hq]; have hz := c_6; rw [hzz] at hz; rcases Decidable.em (F (256 * k + 14) ≤ f (256 * k + 14)) with hc | hc <;> first | (rw [if_pos hc] at hz; first | exact absurd rfl hz | exact (if_pos hc).symm) | (rw [if_neg hc] at hz; first | exact absurd hz (by decide) | exact (if_neg hc).symm)), (by rw [hL_1, hE, show j = 1310 by omega, cpy_back hh]), hL_2, hLF, (by first | exact Nat.le_zero.mp hk9 | omega)⟩) dX8_bitsUntilSent_146 (Nat.le_of_ble_eq_true rfl) (Nat.le_of_ble_eq_true rfl)
                      · replace c_5 : j < 1310 := nn_nle (by omega) (by omega) c_5
                        refine g_aload_n hC dX8_bitsUntilSent_115 0 rfl gRef_r 116 rfl ?_
                        refine g_get (v := .ref av) hC cI7 hL_0 0 (Nat.le_of_ble_eq_true rfl) q2942 rfl dX8_bitsUntilSent_116 119 rfl ?_
                        refine g_iload hC dX8_bitsUntilSent_119 4 rfl 121 rfl ?_
                        refine g_aload_n hC dX8_bitsUntilSent_121 0 rfl gRef_r 122 rfl ?_
                        refine g_get (v := .ref asp) hC cI7 hL_0 1 (Nat.le_of_ble_eq_true rfl) q2943 rfl dX8_bitsUntilSent_122 125 rfl ?_
                        refine g_iload hC dX8_bitsUntilSent_125 4 rfl 127 rfl ?_
                        refine g_iald (v := (cpy sp f 0 0 1310) j) hC hL_2 0 rfl (vp_in_nI (by omega) (by omega)) ((congrArg (cpy sp f 0 0 1310) (nI_clamp (by omega))).trans rfl) dX8_bitsUntilSent_127 128 rfl ?_
                        refine g_iast hC hL_1 0 rfl (vp_in_nI (by omega) (by omega)) j (nI_clamp (by omega)) dX8_bitsUntilSent_128 129 rfl (fun M7 hU8 => ?_)
                        obtain ⟨F9, eF10⟩ : ∃ z9, z9 = upd E j ((cpy sp f 0 0 1310) j) := ⟨_, rfl⟩
                        rw [← eF10] at hU8
                        refine g_iinc hC dX8_bitsUntilSent_129 4 rfl (v := nI (j + 1)) (by rw [ki_1]; exact nI_a (a := j) (b := 1) (c := (j + 1)) (by omega)) (Nat.le_of_ble_eq_true rfl) [(5, .int (nI (j + 1))), (0, .ref o), (1, .int (nI k)), (3, .int (nI i)), (4, .int zz)] rfl 132 rfl ?_
                        refine g_goto hC dX8_bitsUntilSent_132 107 rfl ?_
                        refine gJ.sub (M' := M7) [1, 2, 3, 4, 0] rfl ?_
                        exact ih (j + 1) F9 zz M7 (by omega) (by rw [eF10, hE]; exact cpy_u) hzz (by omega) (hU8.n (gne_oa hL_0 hL_1) hL_0) hU8.1 (hU8.n (gne_t hL_2 hL_1 (by first | assumption | decide | simp | (intro h; simp at h))) hL_2) (hLF.up hU8 hL_1 (by simp))
                  refine gJ.sub (M' := ML) [2, 3, 5, 1, 0] rfl ?_
                  exact loop107 _ 0 F 0 ML (by omega) cpy_0.symm (by simp only [eq_true c_1, eq_true c_2, eq_true c_3, eq_true c_4, eq_false (Int32.not_lt.mpr c_4), if_true, if_false, true_and, and_true, false_and, and_false, true_or, or_true, false_or, or_false, not_true_eq_false, not_false_eq_true, reduceIte, decide_true, decide_false, Bool.false_eq_true]) (Nat.lt_succ_self _) hL_0 hL_1 hL_2 hLF
                · refine g_iconst hC dX8_bitsUntilSent_97 ki_1 98 rfl ?_
                  refine g_goto hC dX8_bitsUntilSent_98 102 rfl ?_
                  refine g_istore hC dX8_bitsUntilSent_102 (Nat.le_of_ble_eq_true rfl) [(4, .int 1), (0, .ref o), (1, .int (nI k)), (2, .int (f (256 * k + 14))), (3, .int (nI i))] rfl 104 rfl ?_
                  refine g_iconst hC dX8_bitsUntilSent_104 ki_0 105 rfl ?_
                  refine g_istore hC dX8_bitsUntilSent_105 (Nat.le_of_ble_eq_true rfl) [(5, .int 0), (4, .int 1), (0, .ref o), (1, .int (nI k)), (2, .int (f (256 * k + 14))), (3, .int (nI i))] rfl 107 rfl ?_
                  have loop107 : ∀ (n9 : Nat) (j : Nat) (E : Nat → Int32) (zz : Int32) (ML : gM), (hj : j ≤ 1310) → (hE : E = cpy F (cpy sp f 0 0 1310) 0 0 j) → (hzz : zz = if F (256 * k + 14) ≤ f (256 * k + 14) then 0 else 1) → 1310 - j < n9 → (ML o = some ((1, 0), .inr (7, [.ref av, .ref asp, .ref ak, .ref aik, .ref atx, .int le, .ref am, .int mn, .ref aa, .int pl, .ref ato]))) → (ML av = some ((1, 1), .inl (gcs G 0, 1310, .inl E))) → (ML asp = some ((1, 2), .inl (gcs G 0, 1310, .inl (cpy sp f 0 0 1310)))) → gFr (gL [av, asp]) M ML → gJ p l e ({ frames := 8, cells := 0, slots := 0, locals := 180 } : Room) s m ([.ref o, .int (nI k)] : List Value).toArray below meth c G 6 (MQ below (gQi G (fun r9 M9 k9 => r9 = (if (busT k (f (256 * k + 14)) 1000 0 f).1 (256 * k + 14) ≤ f (256 * k + 14) then -5 else nI (busT k (f (256 * k + 14)) 1000 0 f).2) ∧ M9 av = some ((1, 1), .inl (gcs G 0, 1310, .inl f)) ∧ M9 asp = some ((1, 2), .inl (gcs G 0, 1310, .inl (cpy sp f 0 0 1310))) ∧ gFr (gL [av, asp]) M M9 ∧ k9 = 0)) ([.ref o, .int (nI k)] : List Value).toArray s 0 0 (gA G)) 0 0 ML 107 [(0, .ref o), (1, .int (nI k)), (3, .int (nI i)), (4, .int zz), (5, .int (nI j))] [] := by
                    intro n9
                    induction n9 with
                    | zero => intro j E zz ML hj hE hzz hmu; exact absurd hmu (Nat.not_lt_zero _)
                    | succ n9 ih =>
                      intro j E zz ML hj hE hzz hmu hL_0 hL_1 hL_2 hLF
                      refine g_iload hC dX8_bitsUntilSent_107 4 rfl 109 rfl ?_
                      refine g_sipush hC dX8_bitsUntilSent_109 ks_1310 112 rfl ?_
                      refine g_icmp_ge hC dX8_bitsUntilSent_112 135 rfl 115 rfl (fun c_11 => ?_) (fun c_11 => ?_)
                      · replace c_11 : 1310 ≤ j := nn_le (by omega) (by omega) c_11
                        refine g_iload hC dX8_bitsUntilSent_135 3 rfl 137 rfl ?_
                        refine g_if_eq hC dX8_bitsUntilSent_137 144 rfl 140 rfl (fun c_12 => ?_) (fun c_12 => ?_)
                        · refine g_bipush hC dX8_bitsUntilSent_144 kb_m5 146 rfl ?_
                          exact g_iret (v := -5) hC (fun k9 hk9 => ⟨(by rw [hq]; have hz := c_12; rw [hzz] at hz; rcases Decidable.em (F (256 * k + 14) ≤ f (256 * k + 14)) with hc | hc <;> first | (rw [if_pos hc] at hz; first | exact absurd rfl hz | exact (if_pos hc).symm) | (rw [if_neg hc] at hz; first | exact absurd hz (by decide) | exact (if_neg hc).symm)), (by rw [hL_1, hE, show j = 1310 by omega, cpy_back hh]), hL_2, hLF, (by first | exact Nat.le_zero.mp hk9 | omega)⟩) dX8_bitsUntilSent_146 (Nat.le_of_ble_eq_true rfl) (Nat.le_of_ble_eq_true rfl)
                        · refine g_iload_n hC dX8_bitsUntilSent_140 2 rfl 141 rfl ?_
                          refine g_goto hC dX8_bitsUntilSent_141 146 rfl ?_
                          exact g_iret (v := nI i) hC (fun k9 hk9 => ⟨(by rw [hq]; have hz := c_12; rw [hzz] at hz; rcases Decidable.em (F (256 * k + 14) ≤ f (256 * k + 14)) with hc | hc <;> first | (rw [if_pos hc] at hz; first | exact absurd rfl hz | exact (if_pos hc).symm) | (rw [if_neg hc] at hz; first | exact absurd hz (by decide) | exact (if_neg hc).symm)), (by rw [hL_1, hE, show j = 1310 by omega, cpy_back hh]), hL_2, hLF, (by first | exact Nat.le_zero.mp hk9 | omega)⟩) dX8_bitsUntilSent_146 (Nat.le_of_ble_eq_true rfl) (Nat.le_of_ble_eq_true rfl)
                      · replace c_11 : j < 1310 := nn_nle (by omega) (by omega) c_11
                        refine g_aload_n hC dX8_bitsUntilSent_115 0 rfl gRef_r 116 rfl ?_
                        refine g_get (v := .ref av) hC cI7 hL_0 0 (Nat.le_of_ble_eq_true rfl) q2942 rfl dX8_bitsUntilSent_116 119 rfl ?_
                        refine g_iload hC dX8_bitsUntilSent_119 4 rfl 121 rfl ?_
                        refine g_aload_n hC dX8_bitsUntilSent_121 0 rfl gRef_r 122 rfl ?_
                        refine g_get (v := .ref asp) hC cI7 hL_0 1 (Nat.le_of_ble_eq_true rfl) q2943 rfl dX8_bitsUntilSent_122 125 rfl ?_
                        refine g_iload hC dX8_bitsUntilSent_125 4 rfl 127 rfl ?_
                        refine g_iald (v := (cpy sp f 0 0 1310) j) hC hL_2 0 rfl (vp_in_nI (by omega) (by omega)) ((congrArg (cpy sp f 0 0 1310) (nI_clamp (by omega))).trans rfl) dX8_bitsUntilSent_127 128 rfl ?_
                        refine g_iast hC hL_1 0 rfl (vp_in_nI (by omega) (by omega)) j (nI_clamp (by omega)) dX8_bitsUntilSent_128 129 rfl (fun M13 hU14 => ?_)
                        obtain ⟨F15, eF16⟩ : ∃ z9, z9 = upd E j ((cpy sp f 0 0 1310) j) := ⟨_, rfl⟩
                        rw [← eF16] at hU14
                        refine g_iinc hC dX8_bitsUntilSent_129 4 rfl (v := nI (j + 1)) (by rw [ki_1]; exact nI_a (a := j) (b := 1) (c := (j + 1)) (by omega)) (Nat.le_of_ble_eq_true rfl) [(5, .int (nI (j + 1))), (0, .ref o), (1, .int (nI k)), (3, .int (nI i)), (4, .int zz)] rfl 132 rfl ?_
                        refine g_goto hC dX8_bitsUntilSent_132 107 rfl ?_
                        refine gJ.sub (M' := M13) [1, 2, 3, 4, 0] rfl ?_
                        exact ih (j + 1) F15 zz M13 (by omega) (by rw [eF16, hE]; exact cpy_u) hzz (by omega) (hU14.n (gne_oa hL_0 hL_1) hL_0) hU14.1 (hU14.n (gne_t hL_2 hL_1 (by first | assumption | decide | simp | (intro h; simp at h))) hL_2) (hLF.up hU14 hL_1 (by simp))
                  refine gJ.sub (M' := ML) [2, 3, 5, 1, 0] rfl ?_
                  exact loop107 _ 0 F 1 ML (by omega) cpy_0.symm (by simp only [eq_true c_1, eq_true c_2, eq_true c_3, eq_false c_4, eq_true (Int32.not_le.mp c_4), if_true, if_false, true_and, and_true, false_and, and_false, true_or, or_true, false_or, or_false, not_true_eq_false, not_false_eq_true, reduceIte, decide_true, decide_false, Bool.false_eq_true]) (Nat.lt_succ_self _) hL_0 hL_1 hL_2 hLF
              · replace c_3 : i < 1000 := nn_nle (by omega) (by omega) c_3
                refine g_aload_n hC dX8_bitsUntilSent_57 0 rfl gRef_r 58 rfl ?_
                refine g_get (v := .ref av) hC cI7 hL_0 0 (Nat.le_of_ble_eq_true rfl) q2942 rfl dX8_bitsUntilSent_58 61 rfl ?_
                refine g_iload_n hC dX8_bitsUntilSent_61 1 rfl 62 rfl ?_
                refine g_bipush hC dX8_bitsUntilSent_62 kb_14 64 rfl ?_
                refine g_calliP (g_S (As := [.int (nI k), .int 14]) (rest := [.ref av]) hC msX8_at q2939 (met_T_at l G ML k 14) ⟨rfl, rfl⟩ ⟨(Nat.le_of_ble_eq_true rfl), (Nat.le_of_ble_eq_true rfl)⟩ rfl (Nat.le_of_ble_eq_true rfl) dX8_bitsUntilSent_64 rfl ⟨(Nat.le_of_ble_eq_true rfl), (Nat.le_of_ble_eq_true rfl)⟩) 67 rfl 0 (Nat.le_of_ble_eq_true rfl) ?_
                refine g_iald (v := F (256 * k + 14)) hC hL_1 0 rfl (vp_in_nI (by omega) (by omega)) ((congrArg F (nI_clamp (by omega))).trans rfl) dX8_bitsUntilSent_67 68 rfl ?_
                refine g_iload_n hC dX8_bitsUntilSent_68 2 rfl 69 rfl ?_
                refine g_icmp_ne hC dX8_bitsUntilSent_69 82 rfl 72 rfl (fun c_17 => ?_) (fun c_17 => ?_)
                · have hq : busT k (f (256 * k + 14)) 1000 0 f = (F, i) := (by rw [← hr, show 1000 - i = (1000 - (i + 1)) + 1 by omega]; simp only [busT, eq_false c_17, if_false])
                  refine g_aload_n hC dX8_bitsUntilSent_82 0 rfl gRef_r 83 rfl ?_
                  refine g_get (v := .ref av) hC cI7 hL_0 0 (Nat.le_of_ble_eq_true rfl) q2942 rfl dX8_bitsUntilSent_83 86 rfl ?_
                  refine g_iload_n hC dX8_bitsUntilSent_86 1 rfl 87 rfl ?_
                  refine g_bipush hC dX8_bitsUntilSent_87 kb_14 89 rfl ?_
                  refine g_calliP (g_S (As := [.int (nI k), .int 14]) (rest := [.ref av]) hC msX8_at q2939 (met_T_at l G ML k 14) ⟨rfl, rfl⟩ ⟨(Nat.le_of_ble_eq_true rfl), (Nat.le_of_ble_eq_true rfl)⟩ rfl (Nat.le_of_ble_eq_true rfl) dX8_bitsUntilSent_89 rfl ⟨(Nat.le_of_ble_eq_true rfl), (Nat.le_of_ble_eq_true rfl)⟩) 92 rfl 0 (Nat.le_of_ble_eq_true rfl) ?_
                  refine g_iald (v := F (256 * k + 14)) hC hL_1 0 rfl (vp_in_nI (by omega) (by omega)) ((congrArg F (nI_clamp (by omega))).trans rfl) dX8_bitsUntilSent_92 93 rfl ?_
                  refine g_iload_n hC dX8_bitsUntilSent_93 2 rfl 94 rfl ?_
                  refine g_icmp_le hC dX8_bitsUntilSent_94 101 rfl 97 rfl (fun c_18 => ?_) (fun c_18 => ?_)
                  · refine g_iconst hC dX8_bitsUntilSent_101 ki_0 102 rfl ?_
                    refine g_istore hC dX8_bitsUntilSent_102 (Nat.le_of_ble_eq_true rfl) [(4, .int 0), (0, .ref o), (1, .int (nI k)), (2, .int (f (256 * k + 14))), (3, .int (nI i))] rfl 104 rfl ?_
                    refine g_iconst hC dX8_bitsUntilSent_104 ki_0 105 rfl ?_
                    refine g_istore hC dX8_bitsUntilSent_105 (Nat.le_of_ble_eq_true rfl) [(5, .int 0), (4, .int 0), (0, .ref o), (1, .int (nI k)), (2, .int (f (256 * k + 14))), (3, .int (nI i))] rfl 107 rfl ?_
                    have loop107 : ∀ (n9 : Nat) (j : Nat) (E : Nat → Int32) (zz : Int32) (ML : gM), (hj : j ≤ 1310) → (hE : E = cpy F (cpy sp f 0 0 1310) 0 0 j) → (hzz : zz = if F (256 * k + 14) ≤ f (256 * k + 14) then 0 else 1) → 1310 - j < n9 → (ML o = some ((1, 0), .inr (7, [.ref av, .ref asp, .ref ak, .ref aik, .ref atx, .int le, .ref am, .int mn, .ref aa, .int pl, .ref ato]))) → (ML av = some ((1, 1), .inl (gcs G 0, 1310, .inl E))) → (ML asp = some ((1, 2), .inl (gcs G 0, 1310, .inl (cpy sp f 0 0 1310)))) → gFr (gL [av, asp]) M ML → gJ p l e ({ frames := 8, cells := 0, slots := 0, locals := 180 } : Room) s m ([.ref o, .int (nI k)] : List Value).toArray below meth c G 6 (MQ below (gQi G (fun r9 M9 k9 => r9 = (if (busT k (f (256 * k + 14)) 1000 0 f).1 (256 * k + 14) ≤ f (256 * k + 14) then -5 else nI (busT k (f (256 * k + 14)) 1000 0 f).2) ∧ M9 av = some ((1, 1), .inl (gcs G 0, 1310, .inl f)) ∧ M9 asp = some ((1, 2), .inl (gcs G 0, 1310, .inl (cpy sp f 0 0 1310))) ∧ gFr (gL [av, asp]) M M9 ∧ k9 = 0)) ([.ref o, .int (nI k)] : List Value).toArray s 0 0 (gA G)) 0 0 ML 107 [(0, .ref o), (1, .int (nI k)), (3, .int (nI i)), (4, .int zz), (5, .int (nI j))] [] := by
                      intro n9
                      induction n9 with
                      | zero => intro j E zz ML hj hE hzz hmu; exact absurd hmu (Nat.not_lt_zero _)
                      | succ n9 ih =>
                        intro j E zz ML hj hE hzz hmu hL_0 hL_1 hL_2 hLF
                        refine g_iload hC dX8_bitsUntilSent_107 4 rfl 109 rfl ?_
                        refine g_sipush hC dX8_bitsUntilSent_109 ks_1310 112 rfl ?_
                        refine g_icmp_ge hC dX8_bitsUntilSent_112 135 rfl 115 rfl (fun c_19 => ?_) (fun c_19 => ?_)
                        · replace c_19 : 1310 ≤ j := nn_le (by omega) (by omega) c_19
                          refine g_iload hC dX8_bitsUntilSent_135 3 rfl 137 rfl ?_
                          refine g_if_eq hC dX8_bitsUntilSent_137 144 rfl 140 rfl (fun c_20 => ?_) (fun c_20 => ?_)
                          · refine g_bipush hC dX8_bitsUntilSent_144 kb_m5 146 rfl ?_
                            exact g_iret (v := -5) hC (fun k9 hk9 => ⟨(by rw [hq]; have hz := c_20; rw [hzz] at hz; rcases Decidable.em (F (256 * k + 14) ≤ f (256 * k + 14)) with hc | hc <;> first | (rw [if_pos hc] at hz; first | exact absurd rfl hz | exact (if_pos hc).symm) | (rw [if_neg hc] at hz; first | exact absurd hz (by decide) | exact (if_neg hc).symm)), (by rw [hL_1, hE, show j = 1310 by omega, cpy_back hh]), hL_2, hLF, (by first | exact Nat.le_zero.mp hk9 | omega)⟩) dX8_bitsUntilSent_146 (Nat.le_of_ble_eq_true rfl) (Nat.le_of_ble_eq_true rfl)
                          · refine g_iload_n hC dX8_bitsUntilSent_140 2 rfl 141 rfl ?_
                            refine g_goto hC dX8_bitsUntilSent_141 146 rfl ?_
                            exact g_iret (v := nI i) hC (fun k9 hk9 => ⟨(by rw [hq]; have hz := c_20; rw [hzz] at hz; rcases Decidable.em (F (256 * k + 14) ≤ f (256 * k + 14)) with hc | hc <;> first | (rw [if_pos hc] at hz; first | exact absurd rfl hz | exact (if_pos hc).symm) | (rw [if_neg hc] at hz; first | exact absurd hz (by decide) | exact (if_neg hc).symm)), (by rw [hL_1, hE, show j = 1310 by omega, cpy_back hh]), hL_2, hLF, (by first | exact Nat.le_zero.mp hk9 | omega)⟩) dX8_bitsUntilSent_146 (Nat.le_of_ble_eq_true rfl) (Nat.le_of_ble_eq_true rfl)
                        · replace c_19 : j < 1310 := nn_nle (by omega) (by omega) c_19
                          refine g_aload_n hC dX8_bitsUntilSent_115 0 rfl gRef_r 116 rfl ?_
                          refine g_get (v := .ref av) hC cI7 hL_0 0 (Nat.le_of_ble_eq_true rfl) q2942 rfl dX8_bitsUntilSent_116 119 rfl ?_
                          refine g_iload hC dX8_bitsUntilSent_119 4 rfl 121 rfl ?_
                          refine g_aload_n hC dX8_bitsUntilSent_121 0 rfl gRef_r 122 rfl ?_
                          refine g_get (v := .ref asp) hC cI7 hL_0 1 (Nat.le_of_ble_eq_true rfl) q2943 rfl dX8_bitsUntilSent_122 125 rfl ?_
                          refine g_iload hC dX8_bitsUntilSent_125 4 rfl 127 rfl ?_
                          refine g_iald (v := (cpy sp f 0 0 1310) j) hC hL_2 0 rfl (vp_in_nI (by omega) (by omega)) ((congrArg (cpy sp f 0 0 1310) (nI_clamp (by omega))).trans rfl) dX8_bitsUntilSent_127 128 rfl ?_
                          refine g_iast hC hL_1 0 rfl (vp_in_nI (by omega) (by omega)) j (nI_clamp (by omega)) dX8_bitsUntilSent_128 129 rfl (fun M21 hU22 => ?_)
                          obtain ⟨F23, eF24⟩ : ∃ z9, z9 = upd E j ((cpy sp f 0 0 1310) j) := ⟨_, rfl⟩
                          rw [← eF24] at hU22
                          refine g_iinc hC dX8_bitsUntilSent_129 4 rfl (v := nI (j + 1)) (by rw [ki_1]; exact nI_a (a := j) (b := 1) (c := (j + 1)) (by omega)) (Nat.le_of_ble_eq_true rfl) [(5, .int (nI (j + 1))), (0, .ref o), (1, .int (nI k)), (3, .int (nI i)), (4, .int zz)] rfl 132 rfl ?_
                          refine g_goto hC dX8_bitsUntilSent_132 107 rfl ?_
                          refine gJ.sub (M' := M21) [1, 2, 3, 4, 0] rfl ?_
                          exact ih (j + 1) F23 zz M21 (by omega) (by rw [eF24, hE]; exact cpy_u) hzz (by omega) (hU22.n (gne_oa hL_0 hL_1) hL_0) hU22.1 (hU22.n (gne_t hL_2 hL_1 (by first | assumption | decide | simp | (intro h; simp at h))) hL_2) (hLF.up hU22 hL_1 (by simp))
                    refine gJ.sub (M' := ML) [2, 3, 5, 1, 0] rfl ?_
                    exact loop107 _ 0 F 0 ML (by omega) cpy_0.symm (by simp only [eq_true c_1, eq_true c_2, eq_true c_3, eq_false c_17, eq_true c_18, eq_false (Int32.not_lt.mpr c_18), if_true, if_false, true_and, and_true, false_and, and_false, true_or, or_true, false_or, or_false, not_true_eq_false, not_false_eq_true, reduceIte, decide_true, decide_false, Bool.false_eq_true]) (Nat.lt_succ_self _) hL_0 hL_1 hL_2 hLF
                  · refine g_iconst hC dX8_bitsUntilSent_97 ki_1 98 rfl ?_
                    refine g_goto hC dX8_bitsUntilSent_98 102 rfl ?_
                    refine g_istore hC dX8_bitsUntilSent_102 (Nat.le_of_ble_eq_true rfl) [(4, .int 1), (0, .ref o), (1, .int (nI k)), (2, .int (f (256 * k + 14))), (3, .int (nI i))] rfl 104 rfl ?_
                    refine g_iconst hC dX8_bitsUntilSent_104 ki_0 105 rfl ?_
                    refine g_istore hC dX8_bitsUntilSent_105 (Nat.le_of_ble_eq_true rfl) [(5, .int 0), (4, .int 1), (0, .ref o), (1, .int (nI k)), (2, .int (f (256 * k + 14))), (3, .int (nI i))] rfl 107 rfl ?_
                    have loop107 : ∀ (n9 : Nat) (j : Nat) (E : Nat → Int32) (zz : Int32) (ML : gM), (hj : j ≤ 1310) → (hE : E = cpy F (cpy sp f 0 0 1310) 0 0 j) → (hzz : zz = if F (256 * k + 14) ≤ f (256 * k + 14) then 0 else 1) → 1310 - j < n9 → (ML o = some ((1, 0), .inr (7, [.ref av, .ref asp, .ref ak, .ref aik, .ref atx, .int le, .ref am, .int mn, .ref aa, .int pl, .ref ato]))) → (ML av = some ((1, 1), .inl (gcs G 0, 1310, .inl E))) → (ML asp = some ((1, 2), .inl (gcs G 0, 1310, .inl (cpy sp f 0 0 1310)))) → gFr (gL [av, asp]) M ML → gJ p l e ({ frames := 8, cells := 0, slots := 0, locals := 180 } : Room) s m ([.ref o, .int (nI k)] : List Value).toArray below meth c G 6 (MQ below (gQi G (fun r9 M9 k9 => r9 = (if (busT k (f (256 * k + 14)) 1000 0 f).1 (256 * k + 14) ≤ f (256 * k + 14) then -5 else nI (busT k (f (256 * k + 14)) 1000 0 f).2) ∧ M9 av = some ((1, 1), .inl (gcs G 0, 1310, .inl f)) ∧ M9 asp = some ((1, 2), .inl (gcs G 0, 1310, .inl (cpy sp f 0 0 1310))) ∧ gFr (gL [av, asp]) M M9 ∧ k9 = 0)) ([.ref o, .int (nI k)] : List Value).toArray s 0 0 (gA G)) 0 0 ML 107 [(0, .ref o), (1, .int (nI k)), (3, .int (nI i)), (4, .int zz), (5, .int (nI j))] [] := by
                      intro n9
                      induction n9 with
                      | zero => intro j E zz ML hj hE hzz hmu; exact absurd hmu (Nat.not_lt_zero _)
                      | succ n9 ih =>
                        intro j E zz ML hj hE hzz hmu hL_0 hL_1 hL_2 hLF
                        refine g_iload hC dX8_bitsUntilSent_107 4 rfl 109 rfl ?_
                        refine g_sipush hC dX8_bitsUntilSent_109 ks_1310 112 rfl ?_
                        refine g_icmp_ge hC dX8_bitsUntilSent_112 135 rfl 115 rfl (fun c_25 => ?_) (fun c_25 => ?_)
                        · replace c_25 : 1310 ≤ j := nn_le (by omega) (by omega) c_25
                          refine g_iload hC dX8_bitsUntilSent_135 3 rfl 137 rfl ?_
                          refine g_if_eq hC dX8_bitsUntilSent_137 144 rfl 140 rfl (fun c_26 => ?_) (fun c_26 => ?_)
                          · refine g_bipush hC dX8_bitsUntilSent_144 kb_m5 146 rfl ?_
                            exact g_iret (v := -5) hC (fun k9 hk9 => ⟨(by rw [hq]; have hz := c_26; rw [hzz] at hz; rcases Decidable.em (F (256 * k + 14) ≤ f (256 * k + 14)) with hc | hc <;> first | (rw [if_pos hc] at hz; first | exact absurd rfl hz | exact (if_pos hc).symm) | (rw [if_neg hc] at hz; first | exact absurd hz (by decide) | exact (if_neg hc).symm)), (by rw [hL_1, hE, show j = 1310 by omega, cpy_back hh]), hL_2, hLF, (by first | exact Nat.le_zero.mp hk9 | omega)⟩) dX8_bitsUntilSent_146 (Nat.le_of_ble_eq_true rfl) (Nat.le_of_ble_eq_true rfl)
                          · refine g_iload_n hC dX8_bitsUntilSent_140 2 rfl 141 rfl ?_
                            refine g_goto hC dX8_bitsUntilSent_141 146 rfl ?_
                            exact g_iret (v := nI i) hC (fun k9 hk9 => ⟨(by rw [hq]; have hz := c_26; rw [hzz] at hz; rcases Decidable.em (F (256 * k + 14) ≤ f (256 * k + 14)) with hc | hc <;> first | (rw [if_pos hc] at hz; first | exact absurd rfl hz | exact (if_pos hc).symm) | (rw [if_neg hc] at hz; first | exact absurd hz (by decide) | exact (if_neg hc).symm)), (by rw [hL_1, hE, show j = 1310 by omega, cpy_back hh]), hL_2, hLF, (by first | exact Nat.le_zero.mp hk9 | omega)⟩) dX8_bitsUntilSent_146 (Nat.le_of_ble_eq_true rfl) (Nat.le_of_ble_eq_true rfl)
                        · replace c_25 : j < 1310 := nn_nle (by omega) (by omega) c_25
                          refine g_aload_n hC dX8_bitsUntilSent_115 0 rfl gRef_r 116 rfl ?_
                          refine g_get (v := .ref av) hC cI7 hL_0 0 (Nat.le_of_ble_eq_true rfl) q2942 rfl dX8_bitsUntilSent_116 119 rfl ?_
                          refine g_iload hC dX8_bitsUntilSent_119 4 rfl 121 rfl ?_
                          refine g_aload_n hC dX8_bitsUntilSent_121 0 rfl gRef_r 122 rfl ?_
                          refine g_get (v := .ref asp) hC cI7 hL_0 1 (Nat.le_of_ble_eq_true rfl) q2943 rfl dX8_bitsUntilSent_122 125 rfl ?_
                          refine g_iload hC dX8_bitsUntilSent_125 4 rfl 127 rfl ?_
                          refine g_iald (v := (cpy sp f 0 0 1310) j) hC hL_2 0 rfl (vp_in_nI (by omega) (by omega)) ((congrArg (cpy sp f 0 0 1310) (nI_clamp (by omega))).trans rfl) dX8_bitsUntilSent_127 128 rfl ?_
                          refine g_iast hC hL_1 0 rfl (vp_in_nI (by omega) (by omega)) j (nI_clamp (by omega)) dX8_bitsUntilSent_128 129 rfl (fun M27 hU28 => ?_)
                          obtain ⟨F29, eF30⟩ : ∃ z9, z9 = upd E j ((cpy sp f 0 0 1310) j) := ⟨_, rfl⟩
                          rw [← eF30] at hU28
                          refine g_iinc hC dX8_bitsUntilSent_129 4 rfl (v := nI (j + 1)) (by rw [ki_1]; exact nI_a (a := j) (b := 1) (c := (j + 1)) (by omega)) (Nat.le_of_ble_eq_true rfl) [(5, .int (nI (j + 1))), (0, .ref o), (1, .int (nI k)), (3, .int (nI i)), (4, .int zz)] rfl 132 rfl ?_
                          refine g_goto hC dX8_bitsUntilSent_132 107 rfl ?_
                          refine gJ.sub (M' := M27) [1, 2, 3, 4, 0] rfl ?_
                          exact ih (j + 1) F29 zz M27 (by omega) (by rw [eF30, hE]; exact cpy_u) hzz (by omega) (hU28.n (gne_oa hL_0 hL_1) hL_0) hU28.1 (hU28.n (gne_t hL_2 hL_1 (by first | assumption | decide | simp | (intro h; simp at h))) hL_2) (hLF.up hU28 hL_1 (by simp))
                    refine gJ.sub (M' := ML) [2, 3, 5, 1, 0] rfl ?_
                    exact loop107 _ 0 F 1 ML (by omega) cpy_0.symm (by simp only [eq_true c_1, eq_true c_2, eq_true c_3, eq_false c_17, eq_false c_18, eq_true (Int32.not_le.mp c_18), if_true, if_false, true_and, and_true, false_and, and_false, true_or, or_true, false_or, or_false, not_true_eq_false, not_false_eq_true, reduceIte, decide_true, decide_false, Bool.false_eq_true]) (Nat.lt_succ_self _) hL_0 hL_1 hL_2 hLF
                · refine g_aload_n hC dX8_bitsUntilSent_72 0 rfl gRef_r 73 rfl ?_
                  refine g_callv (g_V (As := []) (rest := []) hC mvX8_bit q3092 (gOf.of hC.K cI7 hL_0) (met_T_bitA l G ML o av asp ak aik atx le am mn aa pl ato F (by rw [hF]; exact hok i (by omega)) hL_0 hL_1) ⟨rfl, rfl⟩ ⟨(Nat.le_of_ble_eq_true rfl), (Nat.le_of_ble_eq_true rfl)⟩ rfl (Nat.le_of_ble_eq_true rfl) dX8_bitsUntilSent_73 rfl ⟨(Nat.le_of_ble_eq_true rfl), (Nat.le_of_ble_eq_true rfl)⟩) 0 (Nat.le_of_ble_eq_true rfl) 0 (Nat.le_of_ble_eq_true rfl) 76 rfl (fun M31 k32 hp33 => ?_)
                  obtain ⟨hc35, hF36, hk37⟩ := hp33
                  obtain ⟨F38, eF39⟩ : ∃ z9, z9 = T_bit F := ⟨_, rfl⟩
                  rw [← eF39] at hc35
                  refine g_iinc hC dX8_bitsUntilSent_76 3 rfl (v := nI (i + 1)) (by rw [ki_1]; exact nI_a (a := i) (b := 1) (c := (i + 1)) (by omega)) (Nat.le_of_ble_eq_true rfl) [(3, .int (nI (i + 1))), (0, .ref o), (1, .int (nI k)), (2, .int (f (256 * k + 14)))] rfl 79 rfl ?_
                  refine g_goto hC dX8_bitsUntilSent_79 50 rfl ?_
                  refine gJ.sub (M' := M31) [1, 2, 3, 0] rfl ?_
                  exact ih (i + 1) F38 M31 (by omega) (by rw [eF39, hF]; rfl) (fun q hq => by rw [eF39, T_bit_hi (by rw [hF]; exact hok i (by omega)) hq]; exact hh q hq) (by rw [← hr, show 1000 - i = (1000 - (i + 1)) + 1 by omega]; simp only [busT, eq_true c_17, if_true, eF39]) (by omega) (hF36 _ _ _ hL_0 (gno (gne_oa hL_0 hL_1) gno0)) hc35 (hF36 _ _ _ hL_2 (gno (gne_t hL_2 hL_1 (by first | assumption | decide | simp | (intro h; simp at h))) gno0)) (hLF.trans (hF36.mono (by intro b t hb; simp at hb ⊢; first | done | (rcases hb with rfl | rfl | rfl | rfl <;> simp) | (simp [hb]; done))))
          refine gJ.sub (M' := ML) [2, 3, 1, 0] rfl ?_
          exact loop50 _ 0 f ML (by omega) rfl (fun _ _ => rfl) rfl (Nat.lt_succ_self _) hL_0 hL_1 hL_2 hLF
        · replace c_2 : i < 1310 := nn_nle (by omega) (by omega) c_2
          refine g_aload_n hC dX8_bitsUntilSent_18 0 rfl gRef_r 19 rfl ?_
          refine g_get (v := .ref asp) hC cI7 hL_0 1 (Nat.le_of_ble_eq_true rfl) q2943 rfl dX8_bitsUntilSent_19 22 rfl ?_
          refine g_iload_n hC dX8_bitsUntilSent_22 2 rfl 23 rfl ?_
          refine g_aload_n hC dX8_bitsUntilSent_23 0 rfl gRef_r 24 rfl ?_
          refine g_get (v := .ref av) hC cI7 hL_0 0 (Nat.le_of_ble_eq_true rfl) q2942 rfl dX8_bitsUntilSent_24 27 rfl ?_
          refine g_iload_n hC dX8_bitsUntilSent_27 2 rfl 28 rfl ?_
          refine g_iald (v := f i) hC hL_1 0 rfl (vp_in_nI (by omega) (by omega)) ((congrArg f (nI_clamp (by omega))).trans rfl) dX8_bitsUntilSent_28 29 rfl ?_
          refine g_iast hC hL_2 0 rfl (vp_in_nI (by omega) (by omega)) i (nI_clamp (by omega)) dX8_bitsUntilSent_29 30 rfl (fun M40 hU41 => ?_)
          obtain ⟨F42, eF43⟩ : ∃ z9, z9 = upd S i (f i) := ⟨_, rfl⟩
          rw [← eF43] at hU41
          refine g_iinc hC dX8_bitsUntilSent_30 2 rfl (v := nI (i + 1)) (by rw [ki_1]; exact nI_a (a := i) (b := 1) (c := (i + 1)) (by omega)) (Nat.le_of_ble_eq_true rfl) [(2, .int (nI (i + 1))), (0, .ref o), (1, .int (nI k))] rfl 33 rfl ?_
          refine g_goto hC dX8_bitsUntilSent_33 11 rfl ?_
          refine gJ.sub (M' := M40) [1, 2, 0] rfl ?_
          exact ih (i + 1) F42 M40 (by omega) (by rw [eF43, hS]; exact cpy_u) (by omega) (hU41.n (gne_oa hL_0 hL_2) hL_0) (hU41.n (gne_t hL_1 hL_2 (by first | assumption | decide | simp | (intro h; simp at h))) hL_1) hU41.1 (hLF.up hU41 hL_2 (by simp))
    refine gJ.sub (M' := M) [1, 2, 0] rfl ?_
    exact loop11 _ 0 sp M (by omega) cpy_0.symm (Nat.lt_succ_self _) hM_0 hM_1 hM_2 gFr.refl
  · replace c_1 := bId_0 c_1
    exact absurd (nk_in hk) c_1
def chE (f : Nat → Int32) (k : Nat) (h : Int64) : Nat → Int64
  | 0 => h
  | i + 1 => 31 * chE f k h i + (f (256 * k + i + 6)).toInt64
def chW (f : Nat → Int32) (k : Nat) (h : Int64) : Nat → Int64
  | 0 => h
  | i + 1 => 31 * chW f k h i + (T_key f k i).toInt64
def chR (f : Nat → Int32) (k : Nat) (h : Int64) : Nat → Int64
  | 0 => h
  | i + 1 => 31 * (31 * (31 * chR f k h i + (T_gkey f k i).toInt64) + (f (256 * k + 4 * i + 52)).toInt64) + (f (256 * k + 4 * i + 53)).toInt64
def chN (f : Nat → Int32) (k nw nr : Nat) (h : Int64) : Int64 :=
  let h0 := 31 * (31 * (31 * (31 * h + (f (256 * k)).toInt64) + (f (256 * k + 1)).toInt64) + (f (256 * k + 4)).toInt64) + (f (256 * k + 5)).toInt64
  let h1 := chE f k h0 5
  let h2 := 31 * (31 * (31 * (31 * h1 + (T_last f k).toInt64) + (f (256 * k + 12)).toInt64) + (f (256 * k + 13)).toInt64) + (f (256 * k + 14)).toInt64
  let h3 := 31 * (31 * h2 + (f (256 * k + 15)).toInt64) + (nI nw).toInt64
  let h4 := chW f k h3 nw
  let h5 := 31 * h4 + (nI nr).toInt64
  chR f k h5 nr
set_option maxHeartbeats 4000000 in
theorem met_T_moreOf (l : Launch) (G : gG) (M : gM) (o : Nat) (av : Nat) (asp : Nat) (ak : Nat) (aik : Nat) (atx : Nat) (le : Int32) (am : Nat) (mn : Int32) (aa : Nat) (pl : Int32) (ato : Nat) (f : Nat → Int32) (hh : Int64) (k : Nat) (nw : Nat) (nr : Nat) (hk : k < 4) (hnw : f (256 * k + 23) = nI nw) (hnw4 : nw ≤ 4) (hnr : f (256 * k + 24) = nI nr) (hnr6 : nr ≤ 6) (hM_0 : M o = some ((1, 0), .inr (7, [.ref av, .ref asp, .ref ak, .ref aik, .ref atx, .int le, .ref am, .int mn, .ref aa, .int pl, .ref ato]))) (hM_1 : M av = some ((1, 1), .inl (gcs G 0, 1310, .inl f))) : Met l yX8_moreOf (ws_ yX8_moreOf cX8_moreOf 7 (some .long)) ({ frames := 2, cells := 0, slots := 0, locals := 44 }) (gPc G [.ref o, .long hh, .int (nI k)] M) (gQl G (fun r9 M9 k9 => r9 = (chN f k nw nr hh) ∧ M9 = M ∧ k9 = 0)) 0 0 (gA G) := by
  refine gMet [(0, .ref o), (1, .long hh), (3, .int (nI k))] (by decide) (Nat.le_of_ble_eq_true rfl) rfl ?_
  intro p e s m below meth c hC
  refine g_lload_n hC dX8_moreOf_0 1 rfl 1 rfl ?_
  refine g_aload_n hC dX8_moreOf_1 0 rfl gRef_r 2 rfl ?_
  refine g_get (v := .ref av) hC cI7 hM_0 0 (Nat.le_of_ble_eq_true rfl) q2942 rfl dX8_moreOf_2 5 rfl ?_
  refine g_iload_n hC dX8_moreOf_5 2 rfl 6 rfl ?_
  refine g_iconst hC dX8_moreOf_6 ki_0 7 rfl ?_
  refine g_calliP (g_S (As := [.int (nI k), .int 0]) (rest := [.ref av, .long hh]) hC msX8_at q2939 (met_T_at l G M k 0) ⟨rfl, rfl⟩ ⟨(Nat.le_of_ble_eq_true rfl), (Nat.le_of_ble_eq_true rfl)⟩ rfl (Nat.le_of_ble_eq_true rfl) dX8_moreOf_7 rfl ⟨(Nat.le_of_ble_eq_true rfl), (Nat.le_of_ble_eq_true rfl)⟩) 10 rfl 0 (Nat.le_of_ble_eq_true rfl) ?_
  refine g_topi (y := nI (256 * k)) (congrArg nI (show (256 * k + 0) = 256 * k by omega)) ?_
  refine g_iald (v := f (256 * k)) hC hM_1 0 rfl (vp_in_nI (by omega) (by omega)) ((congrArg f (nI_clamp (by omega))).trans rfl) dX8_moreOf_10 11 rfl ?_
  refine g_calllP (g_S (As := [.long hh, .int (f (256 * k))]) (rest := []) hC msX8_more q3379 (met_T_more l G M hh (f (256 * k))) ⟨rfl, rfl⟩ ⟨(Nat.le_of_ble_eq_true rfl), (Nat.le_of_ble_eq_true rfl)⟩ rfl (Nat.le_of_ble_eq_true rfl) dX8_moreOf_11 rfl ⟨(Nat.le_of_ble_eq_true rfl), (Nat.le_of_ble_eq_true rfl)⟩) 14 rfl 0 (Nat.le_of_ble_eq_true rfl) ?_
  refine g_aload_n hC dX8_moreOf_14 0 rfl gRef_r 15 rfl ?_
  refine g_get (v := .ref av) hC cI7 hM_0 0 (Nat.le_of_ble_eq_true rfl) q2942 rfl dX8_moreOf_15 18 rfl ?_
  refine g_iload_n hC dX8_moreOf_18 2 rfl 19 rfl ?_
  refine g_iconst hC dX8_moreOf_19 ki_1 20 rfl ?_
  refine g_calliP (g_S (As := [.int (nI k), .int 1]) (rest := [.ref av, .long (31 * hh + Int32.toInt64 (f (256 * k)))]) hC msX8_at q2939 (met_T_at l G M k 1) ⟨rfl, rfl⟩ ⟨(Nat.le_of_ble_eq_true rfl), (Nat.le_of_ble_eq_true rfl)⟩ rfl (Nat.le_of_ble_eq_true rfl) dX8_moreOf_20 rfl ⟨(Nat.le_of_ble_eq_true rfl), (Nat.le_of_ble_eq_true rfl)⟩) 23 rfl 0 (Nat.le_of_ble_eq_true rfl) ?_
  refine g_iald (v := f (256 * k + 1)) hC hM_1 0 rfl (vp_in_nI (by omega) (by omega)) ((congrArg f (nI_clamp (by omega))).trans rfl) dX8_moreOf_23 24 rfl ?_
  refine g_calllP (g_S (As := [.long (31 * hh + Int32.toInt64 (f (256 * k))), .int (f (256 * k + 1))]) (rest := []) hC msX8_more q3379 (met_T_more l G M (31 * hh + Int32.toInt64 (f (256 * k))) (f (256 * k + 1))) ⟨rfl, rfl⟩ ⟨(Nat.le_of_ble_eq_true rfl), (Nat.le_of_ble_eq_true rfl)⟩ rfl (Nat.le_of_ble_eq_true rfl) dX8_moreOf_24 rfl ⟨(Nat.le_of_ble_eq_true rfl), (Nat.le_of_ble_eq_true rfl)⟩) 27 rfl 0 (Nat.le_of_ble_eq_true rfl) ?_
  refine g_aload_n hC dX8_moreOf_27 0 rfl gRef_r 28 rfl ?_
  refine g_get (v := .ref av) hC cI7 hM_0 0 (Nat.le_of_ble_eq_true rfl) q2942 rfl dX8_moreOf_28 31 rfl ?_
  refine g_iload_n hC dX8_moreOf_31 2 rfl 32 rfl ?_
  refine g_iconst hC dX8_moreOf_32 ki_4 33 rfl ?_
  refine g_calliP (g_S (As := [.int (nI k), .int 4]) (rest := [.ref av, .long (31 * (31 * hh + Int32.toInt64 (f (256 * k))) + Int32.toInt64 (f (256 * k + 1)))]) hC msX8_at q2939 (met_T_at l G M k 4) ⟨rfl, rfl⟩ ⟨(Nat.le_of_ble_eq_true rfl), (Nat.le_of_ble_eq_true rfl)⟩ rfl (Nat.le_of_ble_eq_true rfl) dX8_moreOf_33 rfl ⟨(Nat.le_of_ble_eq_true rfl), (Nat.le_of_ble_eq_true rfl)⟩) 36 rfl 0 (Nat.le_of_ble_eq_true rfl) ?_
  refine g_iald (v := f (256 * k + 4)) hC hM_1 0 rfl (vp_in_nI (by omega) (by omega)) ((congrArg f (nI_clamp (by omega))).trans rfl) dX8_moreOf_36 37 rfl ?_
  refine g_calllP (g_S (As := [.long (31 * (31 * hh + Int32.toInt64 (f (256 * k))) + Int32.toInt64 (f (256 * k + 1))), .int (f (256 * k + 4))]) (rest := []) hC msX8_more q3379 (met_T_more l G M (31 * (31 * hh + Int32.toInt64 (f (256 * k))) + Int32.toInt64 (f (256 * k + 1))) (f (256 * k + 4))) ⟨rfl, rfl⟩ ⟨(Nat.le_of_ble_eq_true rfl), (Nat.le_of_ble_eq_true rfl)⟩ rfl (Nat.le_of_ble_eq_true rfl) dX8_moreOf_37 rfl ⟨(Nat.le_of_ble_eq_true rfl), (Nat.le_of_ble_eq_true rfl)⟩) 40 rfl 0 (Nat.le_of_ble_eq_true rfl) ?_
  refine g_aload_n hC dX8_moreOf_40 0 rfl gRef_r 41 rfl ?_
  refine g_get (v := .ref av) hC cI7 hM_0 0 (Nat.le_of_ble_eq_true rfl) q2942 rfl dX8_moreOf_41 44 rfl ?_
  refine g_iload_n hC dX8_moreOf_44 2 rfl 45 rfl ?_
  refine g_iconst hC dX8_moreOf_45 ki_5 46 rfl ?_
  refine g_calliP (g_S (As := [.int (nI k), .int 5]) (rest := [.ref av, .long (31 * (31 * (31 * hh + Int32.toInt64 (f (256 * k))) + Int32.toInt64 (f (256 * k + 1))) + Int32.toInt64 (f (256 * k + 4)))]) hC msX8_at q2939 (met_T_at l G M k 5) ⟨rfl, rfl⟩ ⟨(Nat.le_of_ble_eq_true rfl), (Nat.le_of_ble_eq_true rfl)⟩ rfl (Nat.le_of_ble_eq_true rfl) dX8_moreOf_46 rfl ⟨(Nat.le_of_ble_eq_true rfl), (Nat.le_of_ble_eq_true rfl)⟩) 49 rfl 0 (Nat.le_of_ble_eq_true rfl) ?_
  refine g_iald (v := f (256 * k + 5)) hC hM_1 0 rfl (vp_in_nI (by omega) (by omega)) ((congrArg f (nI_clamp (by omega))).trans rfl) dX8_moreOf_49 50 rfl ?_
  refine g_calllP (g_S (As := [.long (31 * (31 * (31 * hh + Int32.toInt64 (f (256 * k))) + Int32.toInt64 (f (256 * k + 1))) + Int32.toInt64 (f (256 * k + 4))), .int (f (256 * k + 5))]) (rest := []) hC msX8_more q3379 (met_T_more l G M (31 * (31 * (31 * hh + Int32.toInt64 (f (256 * k))) + Int32.toInt64 (f (256 * k + 1))) + Int32.toInt64 (f (256 * k + 4))) (f (256 * k + 5))) ⟨rfl, rfl⟩ ⟨(Nat.le_of_ble_eq_true rfl), (Nat.le_of_ble_eq_true rfl)⟩ rfl (Nat.le_of_ble_eq_true rfl) dX8_moreOf_50 rfl ⟨(Nat.le_of_ble_eq_true rfl), (Nat.le_of_ble_eq_true rfl)⟩) 53 rfl 0 (Nat.le_of_ble_eq_true rfl) ?_
  refine g_lstore hC dX8_moreOf_53 (Nat.le_of_ble_eq_true rfl) [(4, .long (31 * (31 * (31 * (31 * hh + Int32.toInt64 (f (256 * k))) + Int32.toInt64 (f (256 * k + 1))) + Int32.toInt64 (f (256 * k + 4))) + Int32.toInt64 (f (256 * k + 5)))), (0, .ref o), (1, .long hh), (3, .int (nI k))] rfl 55 rfl ?_
  refine g_iconst hC dX8_moreOf_55 ki_1 56 rfl ?_
  refine g_istore hC dX8_moreOf_56 (Nat.le_of_ble_eq_true rfl) [(6, .int 1), (4, .long (31 * (31 * (31 * (31 * hh + Int32.toInt64 (f (256 * k))) + Int32.toInt64 (f (256 * k + 1))) + Int32.toInt64 (f (256 * k + 4))) + Int32.toInt64 (f (256 * k + 5)))), (0, .ref o), (1, .long hh), (3, .int (nI k))] rfl 58 rfl ?_
  refine g_iload hC dX8_moreOf_58 0 rfl 60 rfl ?_
  refine g_iconst hC dX8_moreOf_60 ki_5 61 rfl ?_
  refine g_icmp_gt hC dX8_moreOf_61 90 rfl 64 rfl (fun c_1 => ?_) (fun c_1 => ?_)
  · exact absurd c_1 (by decide)
  · refine g_lload hC dX8_moreOf_64 1 rfl 66 rfl ?_
    refine g_aload_n hC dX8_moreOf_66 2 rfl gRef_r 67 rfl ?_
    refine g_get (v := .ref av) hC cI7 hM_0 0 (Nat.le_of_ble_eq_true rfl) q2942 rfl dX8_moreOf_67 70 rfl ?_
    refine g_iload_n hC dX8_moreOf_70 4 rfl 71 rfl ?_
    refine g_iconst hC dX8_moreOf_71 ki_5 72 rfl ?_
    refine g_iload hC dX8_moreOf_72 0 rfl 74 rfl ?_
    refine g_iadd hC dX8_moreOf_74 75 rfl ?_
    refine g_topi (y := 6) (nI_a (a := 5) (b := 1) (c := 6) (by omega)) ?_
    refine g_calliP (g_S (As := [.int (nI k), .int 6]) (rest := [.ref av, .long (31 * (31 * (31 * (31 * hh + Int32.toInt64 (f (256 * k))) + Int32.toInt64 (f (256 * k + 1))) + Int32.toInt64 (f (256 * k + 4))) + Int32.toInt64 (f (256 * k + 5)))]) hC msX8_at q2939 (met_T_at l G M k 6) ⟨rfl, rfl⟩ ⟨(Nat.le_of_ble_eq_true rfl), (Nat.le_of_ble_eq_true rfl)⟩ rfl (Nat.le_of_ble_eq_true rfl) dX8_moreOf_75 rfl ⟨(Nat.le_of_ble_eq_true rfl), (Nat.le_of_ble_eq_true rfl)⟩) 78 rfl 0 (Nat.le_of_ble_eq_true rfl) ?_
    refine g_iald (v := f (256 * k + 6)) hC hM_1 0 rfl (vp_in_nI (by omega) (by omega)) ((congrArg f (nI_clamp (by omega))).trans rfl) dX8_moreOf_78 79 rfl ?_
    refine g_calllP (g_S (As := [.long (31 * (31 * (31 * (31 * hh + Int32.toInt64 (f (256 * k))) + Int32.toInt64 (f (256 * k + 1))) + Int32.toInt64 (f (256 * k + 4))) + Int32.toInt64 (f (256 * k + 5))), .int (f (256 * k + 6))]) (rest := []) hC msX8_more q3379 (met_T_more l G M (31 * (31 * (31 * (31 * hh + Int32.toInt64 (f (256 * k))) + Int32.toInt64 (f (256 * k + 1))) + Int32.toInt64 (f (256 * k + 4))) + Int32.toInt64 (f (256 * k + 5))) (f (256 * k + 6))) ⟨rfl, rfl⟩ ⟨(Nat.le_of_ble_eq_true rfl), (Nat.le_of_ble_eq_true rfl)⟩ rfl (Nat.le_of_ble_eq_true rfl) dX8_moreOf_79 rfl ⟨(Nat.le_of_ble_eq_true rfl), (Nat.le_of_ble_eq_true rfl)⟩) 82 rfl 0 (Nat.le_of_ble_eq_true rfl) ?_
    refine g_lstore hC dX8_moreOf_82 (Nat.le_of_ble_eq_true rfl) [(4, .long (31 * (31 * (31 * (31 * (31 * hh + Int32.toInt64 (f (256 * k))) + Int32.toInt64 (f (256 * k + 1))) + Int32.toInt64 (f (256 * k + 4))) + Int32.toInt64 (f (256 * k + 5))) + Int32.toInt64 (f (256 * k + 6)))), (6, .int 1), (0, .ref o), (1, .long hh), (3, .int (nI k))] rfl 84 rfl ?_
    refine g_iinc hC dX8_moreOf_84 1 rfl (v := 2) (by rw [ki_1]; exact nI_a (a := 1) (b := 1) (c := 2) (by omega)) (Nat.le_of_ble_eq_true rfl) [(6, .int 2), (4, .long (31 * (31 * (31 * (31 * (31 * hh + Int32.toInt64 (f (256 * k))) + Int32.toInt64 (f (256 * k + 1))) + Int32.toInt64 (f (256 * k + 4))) + Int32.toInt64 (f (256 * k + 5))) + Int32.toInt64 (f (256 * k + 6)))), (0, .ref o), (1, .long hh), (3, .int (nI k))] rfl 87 rfl ?_
    refine g_goto hC dX8_moreOf_87 58 rfl ?_
    refine g_iload hC dX8_moreOf_58 0 rfl 60 rfl ?_
    refine g_iconst hC dX8_moreOf_60 ki_5 61 rfl ?_
    refine g_icmp_gt hC dX8_moreOf_61 90 rfl 64 rfl (fun c_2 => ?_) (fun c_2 => ?_)
    · exact absurd c_2 (by decide)
    · refine g_lload hC dX8_moreOf_64 1 rfl 66 rfl ?_
      refine g_aload_n hC dX8_moreOf_66 2 rfl gRef_r 67 rfl ?_
      refine g_get (v := .ref av) hC cI7 hM_0 0 (Nat.le_of_ble_eq_true rfl) q2942 rfl dX8_moreOf_67 70 rfl ?_
      refine g_iload_n hC dX8_moreOf_70 4 rfl 71 rfl ?_
      refine g_iconst hC dX8_moreOf_71 ki_5 72 rfl ?_
      refine g_iload hC dX8_moreOf_72 0 rfl 74 rfl ?_
      refine g_iadd hC dX8_moreOf_74 75 rfl ?_
      refine g_topi (y := 7) (nI_a (a := 5) (b := 2) (c := 7) (by omega)) ?_
      refine g_calliP (g_S (As := [.int (nI k), .int 7]) (rest := [.ref av, .long (31 * (31 * (31 * (31 * (31 * hh + Int32.toInt64 (f (256 * k))) + Int32.toInt64 (f (256 * k + 1))) + Int32.toInt64 (f (256 * k + 4))) + Int32.toInt64 (f (256 * k + 5))) + Int32.toInt64 (f (256 * k + 6)))]) hC msX8_at q2939 (met_T_at l G M k 7) ⟨rfl, rfl⟩ ⟨(Nat.le_of_ble_eq_true rfl), (Nat.le_of_ble_eq_true rfl)⟩ rfl (Nat.le_of_ble_eq_true rfl) dX8_moreOf_75 rfl ⟨(Nat.le_of_ble_eq_true rfl), (Nat.le_of_ble_eq_true rfl)⟩) 78 rfl 0 (Nat.le_of_ble_eq_true rfl) ?_
      refine g_iald (v := f (256 * k + 7)) hC hM_1 0 rfl (vp_in_nI (by omega) (by omega)) ((congrArg f (nI_clamp (by omega))).trans rfl) dX8_moreOf_78 79 rfl ?_
      refine g_calllP (g_S (As := [.long (31 * (31 * (31 * (31 * (31 * hh + Int32.toInt64 (f (256 * k))) + Int32.toInt64 (f (256 * k + 1))) + Int32.toInt64 (f (256 * k + 4))) + Int32.toInt64 (f (256 * k + 5))) + Int32.toInt64 (f (256 * k + 6))), .int (f (256 * k + 7))]) (rest := []) hC msX8_more q3379 (met_T_more l G M (31 * (31 * (31 * (31 * (31 * hh + Int32.toInt64 (f (256 * k))) + Int32.toInt64 (f (256 * k + 1))) + Int32.toInt64 (f (256 * k + 4))) + Int32.toInt64 (f (256 * k + 5))) + Int32.toInt64 (f (256 * k + 6))) (f (256 * k + 7))) ⟨rfl, rfl⟩ ⟨(Nat.le_of_ble_eq_true rfl), (Nat.le_of_ble_eq_true rfl)⟩ rfl (Nat.le_of_ble_eq_true rfl) dX8_moreOf_79 rfl ⟨(Nat.le_of_ble_eq_true rfl), (Nat.le_of_ble_eq_true rfl)⟩) 82 rfl 0 (Nat.le_of_ble_eq_true rfl) ?_
      refine g_lstore hC dX8_moreOf_82 (Nat.le_of_ble_eq_true rfl) [(4, .long (31 * (31 * (31 * (31 * (31 * (31 * hh + Int32.toInt64 (f (256 * k))) + Int32.toInt64 (f (256 * k + 1))) + Int32.toInt64 (f (256 * k + 4))) + Int32.toInt64 (f (256 * k + 5))) + Int32.toInt64 (f (256 * k + 6))) + Int32.toInt64 (f (256 * k + 7)))), (6, .int 2), (0, .ref o), (1, .long hh), (3, .int (nI k))] rfl 84 rfl ?_
      refine g_iinc hC dX8_moreOf_84 1 rfl (v := 3) (by rw [ki_1]; exact nI_a (a := 2) (b := 1) (c := 3) (by omega)) (Nat.le_of_ble_eq_true rfl) [(6, .int 3), (4, .long (31 * (31 * (31 * (31 * (31 * (31 * hh + Int32.toInt64 (f (256 * k))) + Int32.toInt64 (f (256 * k + 1))) + Int32.toInt64 (f (256 * k + 4))) + Int32.toInt64 (f (256 * k + 5))) + Int32.toInt64 (f (256 * k + 6))) + Int32.toInt64 (f (256 * k + 7)))), (0, .ref o), (1, .long hh), (3, .int (nI k))] rfl 87 rfl ?_
      refine g_goto hC dX8_moreOf_87 58 rfl ?_
      refine g_iload hC dX8_moreOf_58 0 rfl 60 rfl ?_
      refine g_iconst hC dX8_moreOf_60 ki_5 61 rfl ?_
      refine g_icmp_gt hC dX8_moreOf_61 90 rfl 64 rfl (fun c_3 => ?_) (fun c_3 => ?_)
      · exact absurd c_3 (by decide)
      · refine g_lload hC dX8_moreOf_64 1 rfl 66 rfl ?_
        refine g_aload_n hC dX8_moreOf_66 2 rfl gRef_r 67 rfl ?_
        refine g_get (v := .ref av) hC cI7 hM_0 0 (Nat.le_of_ble_eq_true rfl) q2942 rfl dX8_moreOf_67 70 rfl ?_
        refine g_iload_n hC dX8_moreOf_70 4 rfl 71 rfl ?_
        refine g_iconst hC dX8_moreOf_71 ki_5 72 rfl ?_
        refine g_iload hC dX8_moreOf_72 0 rfl 74 rfl ?_
        refine g_iadd hC dX8_moreOf_74 75 rfl ?_
        refine g_topi (y := 8) (nI_a (a := 5) (b := 3) (c := 8) (by omega)) ?_
        refine g_calliP (g_S (As := [.int (nI k), .int 8]) (rest := [.ref av, .long (31 * (31 * (31 * (31 * (31 * (31 * hh + Int32.toInt64 (f (256 * k))) + Int32.toInt64 (f (256 * k + 1))) + Int32.toInt64 (f (256 * k + 4))) + Int32.toInt64 (f (256 * k + 5))) + Int32.toInt64 (f (256 * k + 6))) + Int32.toInt64 (f (256 * k + 7)))]) hC msX8_at q2939 (met_T_at l G M k 8) ⟨rfl, rfl⟩ ⟨(Nat.le_of_ble_eq_true rfl), (Nat.le_of_ble_eq_true rfl)⟩ rfl (Nat.le_of_ble_eq_true rfl) dX8_moreOf_75 rfl ⟨(Nat.le_of_ble_eq_true rfl), (Nat.le_of_ble_eq_true rfl)⟩) 78 rfl 0 (Nat.le_of_ble_eq_true rfl) ?_
        refine g_iald (v := f (256 * k + 8)) hC hM_1 0 rfl (vp_in_nI (by omega) (by omega)) ((congrArg f (nI_clamp (by omega))).trans rfl) dX8_moreOf_78 79 rfl ?_
        refine g_calllP (g_S (As := [.long (31 * (31 * (31 * (31 * (31 * (31 * hh + Int32.toInt64 (f (256 * k))) + Int32.toInt64 (f (256 * k + 1))) + Int32.toInt64 (f (256 * k + 4))) + Int32.toInt64 (f (256 * k + 5))) + Int32.toInt64 (f (256 * k + 6))) + Int32.toInt64 (f (256 * k + 7))), .int (f (256 * k + 8))]) (rest := []) hC msX8_more q3379 (met_T_more l G M (31 * (31 * (31 * (31 * (31 * (31 * hh + Int32.toInt64 (f (256 * k))) + Int32.toInt64 (f (256 * k + 1))) + Int32.toInt64 (f (256 * k + 4))) + Int32.toInt64 (f (256 * k + 5))) + Int32.toInt64 (f (256 * k + 6))) + Int32.toInt64 (f (256 * k + 7))) (f (256 * k + 8))) ⟨rfl, rfl⟩ ⟨(Nat.le_of_ble_eq_true rfl), (Nat.le_of_ble_eq_true rfl)⟩ rfl (Nat.le_of_ble_eq_true rfl) dX8_moreOf_79 rfl ⟨(Nat.le_of_ble_eq_true rfl), (Nat.le_of_ble_eq_true rfl)⟩) 82 rfl 0 (Nat.le_of_ble_eq_true rfl) ?_
        refine g_lstore hC dX8_moreOf_82 (Nat.le_of_ble_eq_true rfl) [(4, .long (31 * (31 * (31 * (31 * (31 * (31 * (31 * hh + Int32.toInt64 (f (256 * k))) + Int32.toInt64 (f (256 * k + 1))) + Int32.toInt64 (f (256 * k + 4))) + Int32.toInt64 (f (256 * k + 5))) + Int32.toInt64 (f (256 * k + 6))) + Int32.toInt64 (f (256 * k + 7))) + Int32.toInt64 (f (256 * k + 8)))), (6, .int 3), (0, .ref o), (1, .long hh), (3, .int (nI k))] rfl 84 rfl ?_
        refine g_iinc hC dX8_moreOf_84 1 rfl (v := 4) (by rw [ki_1]; exact nI_a (a := 3) (b := 1) (c := 4) (by omega)) (Nat.le_of_ble_eq_true rfl) [(6, .int 4), (4, .long (31 * (31 * (31 * (31 * (31 * (31 * (31 * hh + Int32.toInt64 (f (256 * k))) + Int32.toInt64 (f (256 * k + 1))) + Int32.toInt64 (f (256 * k + 4))) + Int32.toInt64 (f (256 * k + 5))) + Int32.toInt64 (f (256 * k + 6))) + Int32.toInt64 (f (256 * k + 7))) + Int32.toInt64 (f (256 * k + 8)))), (0, .ref o), (1, .long hh), (3, .int (nI k))] rfl 87 rfl ?_
        refine g_goto hC dX8_moreOf_87 58 rfl ?_
        refine g_iload hC dX8_moreOf_58 0 rfl 60 rfl ?_
        refine g_iconst hC dX8_moreOf_60 ki_5 61 rfl ?_
        refine g_icmp_gt hC dX8_moreOf_61 90 rfl 64 rfl (fun c_4 => ?_) (fun c_4 => ?_)
        · exact absurd c_4 (by decide)
        · refine g_lload hC dX8_moreOf_64 1 rfl 66 rfl ?_
          refine g_aload_n hC dX8_moreOf_66 2 rfl gRef_r 67 rfl ?_
          refine g_get (v := .ref av) hC cI7 hM_0 0 (Nat.le_of_ble_eq_true rfl) q2942 rfl dX8_moreOf_67 70 rfl ?_
          refine g_iload_n hC dX8_moreOf_70 4 rfl 71 rfl ?_
          refine g_iconst hC dX8_moreOf_71 ki_5 72 rfl ?_
          refine g_iload hC dX8_moreOf_72 0 rfl 74 rfl ?_
          refine g_iadd hC dX8_moreOf_74 75 rfl ?_
          refine g_topi (y := 9) (nI_a (a := 5) (b := 4) (c := 9) (by omega)) ?_
          refine g_calliP (g_S (As := [.int (nI k), .int 9]) (rest := [.ref av, .long (31 * (31 * (31 * (31 * (31 * (31 * (31 * hh + Int32.toInt64 (f (256 * k))) + Int32.toInt64 (f (256 * k + 1))) + Int32.toInt64 (f (256 * k + 4))) + Int32.toInt64 (f (256 * k + 5))) + Int32.toInt64 (f (256 * k + 6))) + Int32.toInt64 (f (256 * k + 7))) + Int32.toInt64 (f (256 * k + 8)))]) hC msX8_at q2939 (met_T_at l G M k 9) ⟨rfl, rfl⟩ ⟨(Nat.le_of_ble_eq_true rfl), (Nat.le_of_ble_eq_true rfl)⟩ rfl (Nat.le_of_ble_eq_true rfl) dX8_moreOf_75 rfl ⟨(Nat.le_of_ble_eq_true rfl), (Nat.le_of_ble_eq_true rfl)⟩) 78 rfl 0 (Nat.le_of_ble_eq_true rfl) ?_
          refine g_iald (v := f (256 * k + 9)) hC hM_1 0 rfl (vp_in_nI (by omega) (by omega)) ((congrArg f (nI_clamp (by omega))).trans rfl) dX8_moreOf_78 79 rfl ?_
          refine g_calllP (g_S (As := [.long (31 * (31 * (31 * (31 * (31 * (31 * (31 * hh + Int32.toInt64 (f (256 * k))) + Int32.toInt64 (f (256 * k + 1))) + Int32.toInt64 (f (256 * k + 4))) + Int32.toInt64 (f (256 * k + 5))) + Int32.toInt64 (f (256 * k + 6))) + Int32.toInt64 (f (256 * k + 7))) + Int32.toInt64 (f (256 * k + 8))), .int (f (256 * k + 9))]) (rest := []) hC msX8_more q3379 (met_T_more l G M (31 * (31 * (31 * (31 * (31 * (31 * (31 * hh + Int32.toInt64 (f (256 * k))) + Int32.toInt64 (f (256 * k + 1))) + Int32.toInt64 (f (256 * k + 4))) + Int32.toInt64 (f (256 * k + 5))) + Int32.toInt64 (f (256 * k + 6))) + Int32.toInt64 (f (256 * k + 7))) + Int32.toInt64 (f (256 * k + 8))) (f (256 * k + 9))) ⟨rfl, rfl⟩ ⟨(Nat.le_of_ble_eq_true rfl), (Nat.le_of_ble_eq_true rfl)⟩ rfl (Nat.le_of_ble_eq_true rfl) dX8_moreOf_79 rfl ⟨(Nat.le_of_ble_eq_true rfl), (Nat.le_of_ble_eq_true rfl)⟩) 82 rfl 0 (Nat.le_of_ble_eq_true rfl) ?_
          refine g_lstore hC dX8_moreOf_82 (Nat.le_of_ble_eq_true rfl) [(4, .long (31 * (31 * (31 * (31 * (31 * (31 * (31 * (31 * hh + Int32.toInt64 (f (256 * k))) + Int32.toInt64 (f (256 * k + 1))) + Int32.toInt64 (f (256 * k + 4))) + Int32.toInt64 (f (256 * k + 5))) + Int32.toInt64 (f (256 * k + 6))) + Int32.toInt64 (f (256 * k + 7))) + Int32.toInt64 (f (256 * k + 8))) + Int32.toInt64 (f (256 * k + 9)))), (6, .int 4), (0, .ref o), (1, .long hh), (3, .int (nI k))] rfl 84 rfl ?_
          refine g_iinc hC dX8_moreOf_84 1 rfl (v := 5) (by rw [ki_1]; exact nI_a (a := 4) (b := 1) (c := 5) (by omega)) (Nat.le_of_ble_eq_true rfl) [(6, .int 5), (4, .long (31 * (31 * (31 * (31 * (31 * (31 * (31 * (31 * hh + Int32.toInt64 (f (256 * k))) + Int32.toInt64 (f (256 * k + 1))) + Int32.toInt64 (f (256 * k + 4))) + Int32.toInt64 (f (256 * k + 5))) + Int32.toInt64 (f (256 * k + 6))) + Int32.toInt64 (f (256 * k + 7))) + Int32.toInt64 (f (256 * k + 8))) + Int32.toInt64 (f (256 * k + 9)))), (0, .ref o), (1, .long hh), (3, .int (nI k))] rfl 87 rfl ?_
          refine g_goto hC dX8_moreOf_87 58 rfl ?_
          refine g_iload hC dX8_moreOf_58 0 rfl 60 rfl ?_
          refine g_iconst hC dX8_moreOf_60 ki_5 61 rfl ?_
          refine g_icmp_gt hC dX8_moreOf_61 90 rfl 64 rfl (fun c_5 => ?_) (fun c_5 => ?_)
          · exact absurd c_5 (by decide)
          · refine g_lload hC dX8_moreOf_64 1 rfl 66 rfl ?_
            refine g_aload_n hC dX8_moreOf_66 2 rfl gRef_r 67 rfl ?_
            refine g_get (v := .ref av) hC cI7 hM_0 0 (Nat.le_of_ble_eq_true rfl) q2942 rfl dX8_moreOf_67 70 rfl ?_
            refine g_iload_n hC dX8_moreOf_70 4 rfl 71 rfl ?_
            refine g_iconst hC dX8_moreOf_71 ki_5 72 rfl ?_
            refine g_iload hC dX8_moreOf_72 0 rfl 74 rfl ?_
            refine g_iadd hC dX8_moreOf_74 75 rfl ?_
            refine g_topi (y := 10) (nI_a (a := 5) (b := 5) (c := 10) (by omega)) ?_
            refine g_calliP (g_S (As := [.int (nI k), .int 10]) (rest := [.ref av, .long (31 * (31 * (31 * (31 * (31 * (31 * (31 * (31 * hh + Int32.toInt64 (f (256 * k))) + Int32.toInt64 (f (256 * k + 1))) + Int32.toInt64 (f (256 * k + 4))) + Int32.toInt64 (f (256 * k + 5))) + Int32.toInt64 (f (256 * k + 6))) + Int32.toInt64 (f (256 * k + 7))) + Int32.toInt64 (f (256 * k + 8))) + Int32.toInt64 (f (256 * k + 9)))]) hC msX8_at q2939 (met_T_at l G M k 10) ⟨rfl, rfl⟩ ⟨(Nat.le_of_ble_eq_true rfl), (Nat.le_of_ble_eq_true rfl)⟩ rfl (Nat.le_of_ble_eq_true rfl) dX8_moreOf_75 rfl ⟨(Nat.le_of_ble_eq_true rfl), (Nat.le_of_ble_eq_true rfl)⟩) 78 rfl 0 (Nat.le_of_ble_eq_true rfl) ?_
            refine g_iald (v := f (256 * k + 10)) hC hM_1 0 rfl (vp_in_nI (by omega) (by omega)) ((congrArg f (nI_clamp (by omega))).trans rfl) dX8_moreOf_78 79 rfl ?_
            refine g_calllP (g_S (As := [.long (31 * (31 * (31 * (31 * (31 * (31 * (31 * (31 * hh + Int32.toInt64 (f (256 * k))) + Int32.toInt64 (f (256 * k + 1))) + Int32.toInt64 (f (256 * k + 4))) + Int32.toInt64 (f (256 * k + 5))) + Int32.toInt64 (f (256 * k + 6))) + Int32.toInt64 (f (256 * k + 7))) + Int32.toInt64 (f (256 * k + 8))) + Int32.toInt64 (f (256 * k + 9))), .int (f (256 * k + 10))]) (rest := []) hC msX8_more q3379 (met_T_more l G M (31 * (31 * (31 * (31 * (31 * (31 * (31 * (31 * hh + Int32.toInt64 (f (256 * k))) + Int32.toInt64 (f (256 * k + 1))) + Int32.toInt64 (f (256 * k + 4))) + Int32.toInt64 (f (256 * k + 5))) + Int32.toInt64 (f (256 * k + 6))) + Int32.toInt64 (f (256 * k + 7))) + Int32.toInt64 (f (256 * k + 8))) + Int32.toInt64 (f (256 * k + 9))) (f (256 * k + 10))) ⟨rfl, rfl⟩ ⟨(Nat.le_of_ble_eq_true rfl), (Nat.le_of_ble_eq_true rfl)⟩ rfl (Nat.le_of_ble_eq_true rfl) dX8_moreOf_79 rfl ⟨(Nat.le_of_ble_eq_true rfl), (Nat.le_of_ble_eq_true rfl)⟩) 82 rfl 0 (Nat.le_of_ble_eq_true rfl) ?_
            refine g_lstore hC dX8_moreOf_82 (Nat.le_of_ble_eq_true rfl) [(4, .long (31 * (31 * (31 * (31 * (31 * (31 * (31 * (31 * (31 * hh + Int32.toInt64 (f (256 * k))) + Int32.toInt64 (f (256 * k + 1))) + Int32.toInt64 (f (256 * k + 4))) + Int32.toInt64 (f (256 * k + 5))) + Int32.toInt64 (f (256 * k + 6))) + Int32.toInt64 (f (256 * k + 7))) + Int32.toInt64 (f (256 * k + 8))) + Int32.toInt64 (f (256 * k + 9))) + Int32.toInt64 (f (256 * k + 10)))), (6, .int 5), (0, .ref o), (1, .long hh), (3, .int (nI k))] rfl 84 rfl ?_
            refine g_iinc hC dX8_moreOf_84 1 rfl (v := 6) (by rw [ki_1]; exact nI_a (a := 5) (b := 1) (c := 6) (by omega)) (Nat.le_of_ble_eq_true rfl) [(6, .int 6), (4, .long (31 * (31 * (31 * (31 * (31 * (31 * (31 * (31 * (31 * hh + Int32.toInt64 (f (256 * k))) + Int32.toInt64 (f (256 * k + 1))) + Int32.toInt64 (f (256 * k + 4))) + Int32.toInt64 (f (256 * k + 5))) + Int32.toInt64 (f (256 * k + 6))) + Int32.toInt64 (f (256 * k + 7))) + Int32.toInt64 (f (256 * k + 8))) + Int32.toInt64 (f (256 * k + 9))) + Int32.toInt64 (f (256 * k + 10)))), (0, .ref o), (1, .long hh), (3, .int (nI k))] rfl 87 rfl ?_
            refine g_goto hC dX8_moreOf_87 58 rfl ?_
            refine g_iload hC dX8_moreOf_58 0 rfl 60 rfl ?_
            refine g_iconst hC dX8_moreOf_60 ki_5 61 rfl ?_
            refine g_icmp_gt hC dX8_moreOf_61 90 rfl 64 rfl (fun c_6 => ?_) (fun c_6 => ?_)
            · refine g_lload hC dX8_moreOf_90 1 rfl 92 rfl ?_
              refine g_aload_n hC dX8_moreOf_92 2 rfl gRef_r 93 rfl ?_
              refine g_iload_n hC dX8_moreOf_93 4 rfl 94 rfl ?_
              refine g_calliP (g_V (As := [.int (nI k)]) (rest := [.long (31 * (31 * (31 * (31 * (31 * (31 * (31 * (31 * (31 * hh + Int32.toInt64 (f (256 * k))) + Int32.toInt64 (f (256 * k + 1))) + Int32.toInt64 (f (256 * k + 4))) + Int32.toInt64 (f (256 * k + 5))) + Int32.toInt64 (f (256 * k + 6))) + Int32.toInt64 (f (256 * k + 7))) + Int32.toInt64 (f (256 * k + 8))) + Int32.toInt64 (f (256 * k + 9))) + Int32.toInt64 (f (256 * k + 10)))]) hC mvX8_lastOf q3235 (gOf.of hC.K cI7 hM_0) (met_T_lastOf l G M o av asp ak aik atx le am mn aa pl ato f k hk hM_0 hM_1) ⟨rfl, rfl⟩ ⟨(Nat.le_of_ble_eq_true rfl), (Nat.le_of_ble_eq_true rfl)⟩ rfl (Nat.le_of_ble_eq_true rfl) dX8_moreOf_94 rfl ⟨(Nat.le_of_ble_eq_true rfl), (Nat.le_of_ble_eq_true rfl)⟩) 97 rfl 0 (Nat.le_of_ble_eq_true rfl) ?_
              refine g_calllP (g_S (As := [.long (31 * (31 * (31 * (31 * (31 * (31 * (31 * (31 * (31 * hh + Int32.toInt64 (f (256 * k))) + Int32.toInt64 (f (256 * k + 1))) + Int32.toInt64 (f (256 * k + 4))) + Int32.toInt64 (f (256 * k + 5))) + Int32.toInt64 (f (256 * k + 6))) + Int32.toInt64 (f (256 * k + 7))) + Int32.toInt64 (f (256 * k + 8))) + Int32.toInt64 (f (256 * k + 9))) + Int32.toInt64 (f (256 * k + 10))), .int (T_last f k)]) (rest := []) hC msX8_more q3379 (met_T_more l G M (31 * (31 * (31 * (31 * (31 * (31 * (31 * (31 * (31 * hh + Int32.toInt64 (f (256 * k))) + Int32.toInt64 (f (256 * k + 1))) + Int32.toInt64 (f (256 * k + 4))) + Int32.toInt64 (f (256 * k + 5))) + Int32.toInt64 (f (256 * k + 6))) + Int32.toInt64 (f (256 * k + 7))) + Int32.toInt64 (f (256 * k + 8))) + Int32.toInt64 (f (256 * k + 9))) + Int32.toInt64 (f (256 * k + 10))) (T_last f k)) ⟨rfl, rfl⟩ ⟨(Nat.le_of_ble_eq_true rfl), (Nat.le_of_ble_eq_true rfl)⟩ rfl (Nat.le_of_ble_eq_true rfl) dX8_moreOf_97 rfl ⟨(Nat.le_of_ble_eq_true rfl), (Nat.le_of_ble_eq_true rfl)⟩) 100 rfl 0 (Nat.le_of_ble_eq_true rfl) ?_
              refine g_aload_n hC dX8_moreOf_100 2 rfl gRef_r 101 rfl ?_
              refine g_get (v := .ref av) hC cI7 hM_0 0 (Nat.le_of_ble_eq_true rfl) q2942 rfl dX8_moreOf_101 104 rfl ?_
              refine g_iload_n hC dX8_moreOf_104 4 rfl 105 rfl ?_
              refine g_bipush hC dX8_moreOf_105 kb_12 107 rfl ?_
              refine g_calliP (g_S (As := [.int (nI k), .int 12]) (rest := [.ref av, .long (31 * (31 * (31 * (31 * (31 * (31 * (31 * (31 * (31 * (31 * hh + Int32.toInt64 (f (256 * k))) + Int32.toInt64 (f (256 * k + 1))) + Int32.toInt64 (f (256 * k + 4))) + Int32.toInt64 (f (256 * k + 5))) + Int32.toInt64 (f (256 * k + 6))) + Int32.toInt64 (f (256 * k + 7))) + Int32.toInt64 (f (256 * k + 8))) + Int32.toInt64 (f (256 * k + 9))) + Int32.toInt64 (f (256 * k + 10))) + Int32.toInt64 (T_last f k))]) hC msX8_at q2939 (met_T_at l G M k 12) ⟨rfl, rfl⟩ ⟨(Nat.le_of_ble_eq_true rfl), (Nat.le_of_ble_eq_true rfl)⟩ rfl (Nat.le_of_ble_eq_true rfl) dX8_moreOf_107 rfl ⟨(Nat.le_of_ble_eq_true rfl), (Nat.le_of_ble_eq_true rfl)⟩) 110 rfl 0 (Nat.le_of_ble_eq_true rfl) ?_
              refine g_iald (v := f (256 * k + 12)) hC hM_1 0 rfl (vp_in_nI (by omega) (by omega)) ((congrArg f (nI_clamp (by omega))).trans rfl) dX8_moreOf_110 111 rfl ?_
              refine g_calllP (g_S (As := [.long (31 * (31 * (31 * (31 * (31 * (31 * (31 * (31 * (31 * (31 * hh + Int32.toInt64 (f (256 * k))) + Int32.toInt64 (f (256 * k + 1))) + Int32.toInt64 (f (256 * k + 4))) + Int32.toInt64 (f (256 * k + 5))) + Int32.toInt64 (f (256 * k + 6))) + Int32.toInt64 (f (256 * k + 7))) + Int32.toInt64 (f (256 * k + 8))) + Int32.toInt64 (f (256 * k + 9))) + Int32.toInt64 (f (256 * k + 10))) + Int32.toInt64 (T_last f k)), .int (f (256 * k + 12))]) (rest := []) hC msX8_more q3379 (met_T_more l G M (31 * (31 * (31 * (31 * (31 * (31 * (31 * (31 * (31 * (31 * hh + Int32.toInt64 (f (256 * k))) + Int32.toInt64 (f (256 * k + 1))) + Int32.toInt64 (f (256 * k + 4))) + Int32.toInt64 (f (256 * k + 5))) + Int32.toInt64 (f (256 * k + 6))) + Int32.toInt64 (f (256 * k + 7))) + Int32.toInt64 (f (256 * k + 8))) + Int32.toInt64 (f (256 * k + 9))) + Int32.toInt64 (f (256 * k + 10))) + Int32.toInt64 (T_last f k)) (f (256 * k + 12))) ⟨rfl, rfl⟩ ⟨(Nat.le_of_ble_eq_true rfl), (Nat.le_of_ble_eq_true rfl)⟩ rfl (Nat.le_of_ble_eq_true rfl) dX8_moreOf_111 rfl ⟨(Nat.le_of_ble_eq_true rfl), (Nat.le_of_ble_eq_true rfl)⟩) 114 rfl 0 (Nat.le_of_ble_eq_true rfl) ?_
              refine g_aload_n hC dX8_moreOf_114 2 rfl gRef_r 115 rfl ?_
              refine g_get (v := .ref av) hC cI7 hM_0 0 (Nat.le_of_ble_eq_true rfl) q2942 rfl dX8_moreOf_115 118 rfl ?_
              refine g_iload_n hC dX8_moreOf_118 4 rfl 119 rfl ?_
              refine g_bipush hC dX8_moreOf_119 kb_13 121 rfl ?_
              refine g_calliP (g_S (As := [.int (nI k), .int 13]) (rest := [.ref av, .long (31 * (31 * (31 * (31 * (31 * (31 * (31 * (31 * (31 * (31 * (31 * hh + Int32.toInt64 (f (256 * k))) + Int32.toInt64 (f (256 * k + 1))) + Int32.toInt64 (f (256 * k + 4))) + Int32.toInt64 (f (256 * k + 5))) + Int32.toInt64 (f (256 * k + 6))) + Int32.toInt64 (f (256 * k + 7))) + Int32.toInt64 (f (256 * k + 8))) + Int32.toInt64 (f (256 * k + 9))) + Int32.toInt64 (f (256 * k + 10))) + Int32.toInt64 (T_last f k)) + Int32.toInt64 (f (256 * k + 12)))]) hC msX8_at q2939 (met_T_at l G M k 13) ⟨rfl, rfl⟩ ⟨(Nat.le_of_ble_eq_true rfl), (Nat.le_of_ble_eq_true rfl)⟩ rfl (Nat.le_of_ble_eq_true rfl) dX8_moreOf_121 rfl ⟨(Nat.le_of_ble_eq_true rfl), (Nat.le_of_ble_eq_true rfl)⟩) 124 rfl 0 (Nat.le_of_ble_eq_true rfl) ?_
              refine g_iald (v := f (256 * k + 13)) hC hM_1 0 rfl (vp_in_nI (by omega) (by omega)) ((congrArg f (nI_clamp (by omega))).trans rfl) dX8_moreOf_124 125 rfl ?_
              refine g_calllP (g_S (As := [.long (31 * (31 * (31 * (31 * (31 * (31 * (31 * (31 * (31 * (31 * (31 * hh + Int32.toInt64 (f (256 * k))) + Int32.toInt64 (f (256 * k + 1))) + Int32.toInt64 (f (256 * k + 4))) + Int32.toInt64 (f (256 * k + 5))) + Int32.toInt64 (f (256 * k + 6))) + Int32.toInt64 (f (256 * k + 7))) + Int32.toInt64 (f (256 * k + 8))) + Int32.toInt64 (f (256 * k + 9))) + Int32.toInt64 (f (256 * k + 10))) + Int32.toInt64 (T_last f k)) + Int32.toInt64 (f (256 * k + 12))), .int (f (256 * k + 13))]) (rest := []) hC msX8_more q3379 (met_T_more l G M (31 * (31 * (31 * (31 * (31 * (31 * (31 * (31 * (31 * (31 * (31 * hh + Int32.toInt64 (f (256 * k))) + Int32.toInt64 (f (256 * k + 1))) + Int32.toInt64 (f (256 * k + 4))) + Int32.toInt64 (f (256 * k + 5))) + Int32.toInt64 (f (256 * k + 6))) + Int32.toInt64 (f (256 * k + 7))) + Int32.toInt64 (f (256 * k + 8))) + Int32.toInt64 (f (256 * k + 9))) + Int32.toInt64 (f (256 * k + 10))) + Int32.toInt64 (T_last f k)) + Int32.toInt64 (f (256 * k + 12))) (f (256 * k + 13))) ⟨rfl, rfl⟩ ⟨(Nat.le_of_ble_eq_true rfl), (Nat.le_of_ble_eq_true rfl)⟩ rfl (Nat.le_of_ble_eq_true rfl) dX8_moreOf_125 rfl ⟨(Nat.le_of_ble_eq_true rfl), (Nat.le_of_ble_eq_true rfl)⟩) 128 rfl 0 (Nat.le_of_ble_eq_true rfl) ?_
              refine g_aload_n hC dX8_moreOf_128 2 rfl gRef_r 129 rfl ?_
              refine g_get (v := .ref av) hC cI7 hM_0 0 (Nat.le_of_ble_eq_true rfl) q2942 rfl dX8_moreOf_129 132 rfl ?_
              refine g_iload_n hC dX8_moreOf_132 4 rfl 133 rfl ?_
              refine g_bipush hC dX8_moreOf_133 kb_14 135 rfl ?_
              refine g_calliP (g_S (As := [.int (nI k), .int 14]) (rest := [.ref av, .long (31 * (31 * (31 * (31 * (31 * (31 * (31 * (31 * (31 * (31 * (31 * (31 * hh + Int32.toInt64 (f (256 * k))) + Int32.toInt64 (f (256 * k + 1))) + Int32.toInt64 (f (256 * k + 4))) + Int32.toInt64 (f (256 * k + 5))) + Int32.toInt64 (f (256 * k + 6))) + Int32.toInt64 (f (256 * k + 7))) + Int32.toInt64 (f (256 * k + 8))) + Int32.toInt64 (f (256 * k + 9))) + Int32.toInt64 (f (256 * k + 10))) + Int32.toInt64 (T_last f k)) + Int32.toInt64 (f (256 * k + 12))) + Int32.toInt64 (f (256 * k + 13)))]) hC msX8_at q2939 (met_T_at l G M k 14) ⟨rfl, rfl⟩ ⟨(Nat.le_of_ble_eq_true rfl), (Nat.le_of_ble_eq_true rfl)⟩ rfl (Nat.le_of_ble_eq_true rfl) dX8_moreOf_135 rfl ⟨(Nat.le_of_ble_eq_true rfl), (Nat.le_of_ble_eq_true rfl)⟩) 138 rfl 0 (Nat.le_of_ble_eq_true rfl) ?_
              refine g_iald (v := f (256 * k + 14)) hC hM_1 0 rfl (vp_in_nI (by omega) (by omega)) ((congrArg f (nI_clamp (by omega))).trans rfl) dX8_moreOf_138 139 rfl ?_
              refine g_calllP (g_S (As := [.long (31 * (31 * (31 * (31 * (31 * (31 * (31 * (31 * (31 * (31 * (31 * (31 * hh + Int32.toInt64 (f (256 * k))) + Int32.toInt64 (f (256 * k + 1))) + Int32.toInt64 (f (256 * k + 4))) + Int32.toInt64 (f (256 * k + 5))) + Int32.toInt64 (f (256 * k + 6))) + Int32.toInt64 (f (256 * k + 7))) + Int32.toInt64 (f (256 * k + 8))) + Int32.toInt64 (f (256 * k + 9))) + Int32.toInt64 (f (256 * k + 10))) + Int32.toInt64 (T_last f k)) + Int32.toInt64 (f (256 * k + 12))) + Int32.toInt64 (f (256 * k + 13))), .int (f (256 * k + 14))]) (rest := []) hC msX8_more q3379 (met_T_more l G M (31 * (31 * (31 * (31 * (31 * (31 * (31 * (31 * (31 * (31 * (31 * (31 * hh + Int32.toInt64 (f (256 * k))) + Int32.toInt64 (f (256 * k + 1))) + Int32.toInt64 (f (256 * k + 4))) + Int32.toInt64 (f (256 * k + 5))) + Int32.toInt64 (f (256 * k + 6))) + Int32.toInt64 (f (256 * k + 7))) + Int32.toInt64 (f (256 * k + 8))) + Int32.toInt64 (f (256 * k + 9))) + Int32.toInt64 (f (256 * k + 10))) + Int32.toInt64 (T_last f k)) + Int32.toInt64 (f (256 * k + 12))) + Int32.toInt64 (f (256 * k + 13))) (f (256 * k + 14))) ⟨rfl, rfl⟩ ⟨(Nat.le_of_ble_eq_true rfl), (Nat.le_of_ble_eq_true rfl)⟩ rfl (Nat.le_of_ble_eq_true rfl) dX8_moreOf_139 rfl ⟨(Nat.le_of_ble_eq_true rfl), (Nat.le_of_ble_eq_true rfl)⟩) 142 rfl 0 (Nat.le_of_ble_eq_true rfl) ?_
              refine g_lstore hC dX8_moreOf_142 (Nat.le_of_ble_eq_true rfl) [(4, .long (31 * (31 * (31 * (31 * (31 * (31 * (31 * (31 * (31 * (31 * (31 * (31 * (31 * hh + Int32.toInt64 (f (256 * k))) + Int32.toInt64 (f (256 * k + 1))) + Int32.toInt64 (f (256 * k + 4))) + Int32.toInt64 (f (256 * k + 5))) + Int32.toInt64 (f (256 * k + 6))) + Int32.toInt64 (f (256 * k + 7))) + Int32.toInt64 (f (256 * k + 8))) + Int32.toInt64 (f (256 * k + 9))) + Int32.toInt64 (f (256 * k + 10))) + Int32.toInt64 (T_last f k)) + Int32.toInt64 (f (256 * k + 12))) + Int32.toInt64 (f (256 * k + 13))) + Int32.toInt64 (f (256 * k + 14)))), (6, .int 6), (0, .ref o), (1, .long hh), (3, .int (nI k))] rfl 144 rfl ?_
              refine g_lload hC dX8_moreOf_144 0 rfl 146 rfl ?_
              refine g_aload_n hC dX8_moreOf_146 2 rfl gRef_r 147 rfl ?_
              refine g_get (v := .ref av) hC cI7 hM_0 0 (Nat.le_of_ble_eq_true rfl) q2942 rfl dX8_moreOf_147 150 rfl ?_
              refine g_iload_n hC dX8_moreOf_150 4 rfl 151 rfl ?_
              refine g_bipush hC dX8_moreOf_151 kb_15 153 rfl ?_
              refine g_calliP (g_S (As := [.int (nI k), .int 15]) (rest := [.ref av, .long (31 * (31 * (31 * (31 * (31 * (31 * (31 * (31 * (31 * (31 * (31 * (31 * (31 * hh + Int32.toInt64 (f (256 * k))) + Int32.toInt64 (f (256 * k + 1))) + Int32.toInt64 (f (256 * k + 4))) + Int32.toInt64 (f (256 * k + 5))) + Int32.toInt64 (f (256 * k + 6))) + Int32.toInt64 (f (256 * k + 7))) + Int32.toInt64 (f (256 * k + 8))) + Int32.toInt64 (f (256 * k + 9))) + Int32.toInt64 (f (256 * k + 10))) + Int32.toInt64 (T_last f k)) + Int32.toInt64 (f (256 * k + 12))) + Int32.toInt64 (f (256 * k + 13))) + Int32.toInt64 (f (256 * k + 14)))]) hC msX8_at q2939 (met_T_at l G M k 15) ⟨rfl, rfl⟩ ⟨(Nat.le_of_ble_eq_true rfl), (Nat.le_of_ble_eq_true rfl)⟩ rfl (Nat.le_of_ble_eq_true rfl) dX8_moreOf_153 rfl ⟨(Nat.le_of_ble_eq_true rfl), (Nat.le_of_ble_eq_true rfl)⟩) 156 rfl 0 (Nat.le_of_ble_eq_true rfl) ?_
              refine g_iald (v := f (256 * k + 15)) hC hM_1 0 rfl (vp_in_nI (by omega) (by omega)) ((congrArg f (nI_clamp (by omega))).trans rfl) dX8_moreOf_156 157 rfl ?_
              refine g_calllP (g_S (As := [.long (31 * (31 * (31 * (31 * (31 * (31 * (31 * (31 * (31 * (31 * (31 * (31 * (31 * hh + Int32.toInt64 (f (256 * k))) + Int32.toInt64 (f (256 * k + 1))) + Int32.toInt64 (f (256 * k + 4))) + Int32.toInt64 (f (256 * k + 5))) + Int32.toInt64 (f (256 * k + 6))) + Int32.toInt64 (f (256 * k + 7))) + Int32.toInt64 (f (256 * k + 8))) + Int32.toInt64 (f (256 * k + 9))) + Int32.toInt64 (f (256 * k + 10))) + Int32.toInt64 (T_last f k)) + Int32.toInt64 (f (256 * k + 12))) + Int32.toInt64 (f (256 * k + 13))) + Int32.toInt64 (f (256 * k + 14))), .int (f (256 * k + 15))]) (rest := []) hC msX8_more q3379 (met_T_more l G M (31 * (31 * (31 * (31 * (31 * (31 * (31 * (31 * (31 * (31 * (31 * (31 * (31 * hh + Int32.toInt64 (f (256 * k))) + Int32.toInt64 (f (256 * k + 1))) + Int32.toInt64 (f (256 * k + 4))) + Int32.toInt64 (f (256 * k + 5))) + Int32.toInt64 (f (256 * k + 6))) + Int32.toInt64 (f (256 * k + 7))) + Int32.toInt64 (f (256 * k + 8))) + Int32.toInt64 (f (256 * k + 9))) + Int32.toInt64 (f (256 * k + 10))) + Int32.toInt64 (T_last f k)) + Int32.toInt64 (f (256 * k + 12))) + Int32.toInt64 (f (256 * k + 13))) + Int32.toInt64 (f (256 * k + 14))) (f (256 * k + 15))) ⟨rfl, rfl⟩ ⟨(Nat.le_of_ble_eq_true rfl), (Nat.le_of_ble_eq_true rfl)⟩ rfl (Nat.le_of_ble_eq_true rfl) dX8_moreOf_157 rfl ⟨(Nat.le_of_ble_eq_true rfl), (Nat.le_of_ble_eq_true rfl)⟩) 160 rfl 0 (Nat.le_of_ble_eq_true rfl) ?_
              refine g_aload_n hC dX8_moreOf_160 2 rfl gRef_r 161 rfl ?_
              refine g_get (v := .ref av) hC cI7 hM_0 0 (Nat.le_of_ble_eq_true rfl) q2942 rfl dX8_moreOf_161 164 rfl ?_
              refine g_iload_n hC dX8_moreOf_164 4 rfl 165 rfl ?_
              refine g_bipush hC dX8_moreOf_165 kb_23 167 rfl ?_
              refine g_calliP (g_S (As := [.int (nI k), .int 23]) (rest := [.ref av, .long (31 * (31 * (31 * (31 * (31 * (31 * (31 * (31 * (31 * (31 * (31 * (31 * (31 * (31 * hh + Int32.toInt64 (f (256 * k))) + Int32.toInt64 (f (256 * k + 1))) + Int32.toInt64 (f (256 * k + 4))) + Int32.toInt64 (f (256 * k + 5))) + Int32.toInt64 (f (256 * k + 6))) + Int32.toInt64 (f (256 * k + 7))) + Int32.toInt64 (f (256 * k + 8))) + Int32.toInt64 (f (256 * k + 9))) + Int32.toInt64 (f (256 * k + 10))) + Int32.toInt64 (T_last f k)) + Int32.toInt64 (f (256 * k + 12))) + Int32.toInt64 (f (256 * k + 13))) + Int32.toInt64 (f (256 * k + 14))) + Int32.toInt64 (f (256 * k + 15)))]) hC msX8_at q2939 (met_T_at l G M k 23) ⟨rfl, rfl⟩ ⟨(Nat.le_of_ble_eq_true rfl), (Nat.le_of_ble_eq_true rfl)⟩ rfl (Nat.le_of_ble_eq_true rfl) dX8_moreOf_167 rfl ⟨(Nat.le_of_ble_eq_true rfl), (Nat.le_of_ble_eq_true rfl)⟩) 170 rfl 0 (Nat.le_of_ble_eq_true rfl) ?_
              refine g_iald (v := nI nw) hC hM_1 0 rfl (vp_in_nI (by omega) (by omega)) ((congrArg f (nI_clamp (by omega))).trans hnw) dX8_moreOf_170 171 rfl ?_
              refine g_calllP (g_S (As := [.long (31 * (31 * (31 * (31 * (31 * (31 * (31 * (31 * (31 * (31 * (31 * (31 * (31 * (31 * hh + Int32.toInt64 (f (256 * k))) + Int32.toInt64 (f (256 * k + 1))) + Int32.toInt64 (f (256 * k + 4))) + Int32.toInt64 (f (256 * k + 5))) + Int32.toInt64 (f (256 * k + 6))) + Int32.toInt64 (f (256 * k + 7))) + Int32.toInt64 (f (256 * k + 8))) + Int32.toInt64 (f (256 * k + 9))) + Int32.toInt64 (f (256 * k + 10))) + Int32.toInt64 (T_last f k)) + Int32.toInt64 (f (256 * k + 12))) + Int32.toInt64 (f (256 * k + 13))) + Int32.toInt64 (f (256 * k + 14))) + Int32.toInt64 (f (256 * k + 15))), .int (nI nw)]) (rest := []) hC msX8_more q3379 (met_T_more l G M (31 * (31 * (31 * (31 * (31 * (31 * (31 * (31 * (31 * (31 * (31 * (31 * (31 * (31 * hh + Int32.toInt64 (f (256 * k))) + Int32.toInt64 (f (256 * k + 1))) + Int32.toInt64 (f (256 * k + 4))) + Int32.toInt64 (f (256 * k + 5))) + Int32.toInt64 (f (256 * k + 6))) + Int32.toInt64 (f (256 * k + 7))) + Int32.toInt64 (f (256 * k + 8))) + Int32.toInt64 (f (256 * k + 9))) + Int32.toInt64 (f (256 * k + 10))) + Int32.toInt64 (T_last f k)) + Int32.toInt64 (f (256 * k + 12))) + Int32.toInt64 (f (256 * k + 13))) + Int32.toInt64 (f (256 * k + 14))) + Int32.toInt64 (f (256 * k + 15))) (nI nw)) ⟨rfl, rfl⟩ ⟨(Nat.le_of_ble_eq_true rfl), (Nat.le_of_ble_eq_true rfl)⟩ rfl (Nat.le_of_ble_eq_true rfl) dX8_moreOf_171 rfl ⟨(Nat.le_of_ble_eq_true rfl), (Nat.le_of_ble_eq_true rfl)⟩) 174 rfl 0 (Nat.le_of_ble_eq_true rfl) ?_
              refine g_lstore hC dX8_moreOf_174 (Nat.le_of_ble_eq_true rfl) [(4, .long (31 * (31 * (31 * (31 * (31 * (31 * (31 * (31 * (31 * (31 * (31 * (31 * (31 * (31 * (31 * hh + Int32.toInt64 (f (256 * k))) + Int32.toInt64 (f (256 * k + 1))) + Int32.toInt64 (f (256 * k + 4))) + Int32.toInt64 (f (256 * k + 5))) + Int32.toInt64 (f (256 * k + 6))) + Int32.toInt64 (f (256 * k + 7))) + Int32.toInt64 (f (256 * k + 8))) + Int32.toInt64 (f (256 * k + 9))) + Int32.toInt64 (f (256 * k + 10))) + Int32.toInt64 (T_last f k)) + Int32.toInt64 (f (256 * k + 12))) + Int32.toInt64 (f (256 * k + 13))) + Int32.toInt64 (f (256 * k + 14))) + Int32.toInt64 (f (256 * k + 15))) + Int32.toInt64 (nI nw))), (6, .int 6), (0, .ref o), (1, .long hh), (3, .int (nI k))] rfl 176 rfl ?_
              refine g_iconst hC dX8_moreOf_176 ki_0 177 rfl ?_
              refine g_istore hC dX8_moreOf_177 (Nat.le_of_ble_eq_true rfl) [(6, .int 0), (4, .long (31 * (31 * (31 * (31 * (31 * (31 * (31 * (31 * (31 * (31 * (31 * (31 * (31 * (31 * (31 * hh + Int32.toInt64 (f (256 * k))) + Int32.toInt64 (f (256 * k + 1))) + Int32.toInt64 (f (256 * k + 4))) + Int32.toInt64 (f (256 * k + 5))) + Int32.toInt64 (f (256 * k + 6))) + Int32.toInt64 (f (256 * k + 7))) + Int32.toInt64 (f (256 * k + 8))) + Int32.toInt64 (f (256 * k + 9))) + Int32.toInt64 (f (256 * k + 10))) + Int32.toInt64 (T_last f k)) + Int32.toInt64 (f (256 * k + 12))) + Int32.toInt64 (f (256 * k + 13))) + Int32.toInt64 (f (256 * k + 14))) + Int32.toInt64 (f (256 * k + 15))) + Int32.toInt64 (nI nw))), (0, .ref o), (1, .long hh), (3, .int (nI k))] rfl 179 rfl ?_
              have loop179 : ∀ (n9 : Nat) (i : Nat) (h : Int64), (hi : i ≤ nw) → (hr : h = chW f k (31 * (31 * (31 * (31 * (31 * (31 * chE f k (31 * (31 * (31 * (31 * hh + (f (256 * k)).toInt64) + (f (256 * k + 1)).toInt64) + (f (256 * k + 4)).toInt64) + (f (256 * k + 5)).toInt64) 5 + (T_last f k).toInt64) + (f (256 * k + 12)).toInt64) + (f (256 * k + 13)).toInt64) + (f (256 * k + 14)).toInt64) + (f (256 * k + 15)).toInt64) + (nI nw).toInt64) i) → nw - i < n9 → (M o = some ((1, 0), .inr (7, [.ref av, .ref asp, .ref ak, .ref aik, .ref atx, .int le, .ref am, .int mn, .ref aa, .int pl, .ref ato]))) → (M av = some ((1, 1), .inl (gcs G 0, 1310, .inl f))) → gJ p l e ({ frames := 2, cells := 0, slots := 0, locals := 44 } : Room) s m ([.ref o, .long hh, .int (nI k)] : List Value).toArray below meth c G 7 (MQ below (gQl G (fun r9 M9 k9 => r9 = (chN f k nw nr hh) ∧ M9 = M ∧ k9 = 0)) ([.ref o, .long hh, .int (nI k)] : List Value).toArray s 0 0 (gA G)) 0 0 M 179 [(0, .ref o), (3, .int (nI k)), (4, .long h), (6, .int (nI i))] [] := by
                intro n9
                induction n9 with
                | zero => intro i h hi hr hmu; exact absurd hmu (Nat.not_lt_zero _)
                | succ n9 ih =>
                  intro i h hi hr hmu hL_0 hL_1
                  refine g_iload hC dX8_moreOf_179 3 rfl 181 rfl ?_
                  refine g_aload_n hC dX8_moreOf_181 0 rfl gRef_r 182 rfl ?_
                  refine g_get (v := .ref av) hC cI7 hL_0 0 (Nat.le_of_ble_eq_true rfl) q2942 rfl dX8_moreOf_182 185 rfl ?_
                  refine g_iload_n hC dX8_moreOf_185 1 rfl 186 rfl ?_
                  refine g_bipush hC dX8_moreOf_186 kb_23 188 rfl ?_
                  refine g_calliP (g_S (As := [.int (nI k), .int 23]) (rest := [.ref av, .int (nI i)]) hC msX8_at q2939 (met_T_at l G M k 23) ⟨rfl, rfl⟩ ⟨(Nat.le_of_ble_eq_true rfl), (Nat.le_of_ble_eq_true rfl)⟩ rfl (Nat.le_of_ble_eq_true rfl) dX8_moreOf_188 rfl ⟨(Nat.le_of_ble_eq_true rfl), (Nat.le_of_ble_eq_true rfl)⟩) 191 rfl 0 (Nat.le_of_ble_eq_true rfl) ?_
                  refine g_iald (v := nI nw) hC hL_1 0 rfl (vp_in_nI (by omega) (by omega)) ((congrArg f (nI_clamp (by omega))).trans hnw) dX8_moreOf_191 192 rfl ?_
                  refine g_icmp_ge hC dX8_moreOf_192 215 rfl 195 rfl (fun c_7 => ?_) (fun c_7 => ?_)
                  · replace c_7 : nw ≤ i := nn_le (by omega) (by omega) c_7
                    refine g_lload hC dX8_moreOf_215 2 rfl 217 rfl ?_
                    refine g_aload_n hC dX8_moreOf_217 0 rfl gRef_r 218 rfl ?_
                    refine g_get (v := .ref av) hC cI7 hL_0 0 (Nat.le_of_ble_eq_true rfl) q2942 rfl dX8_moreOf_218 221 rfl ?_
                    refine g_iload_n hC dX8_moreOf_221 1 rfl 222 rfl ?_
                    refine g_bipush hC dX8_moreOf_222 kb_24 224 rfl ?_
                    refine g_calliP (g_S (As := [.int (nI k), .int 24]) (rest := [.ref av, .long h]) hC msX8_at q2939 (met_T_at l G M k 24) ⟨rfl, rfl⟩ ⟨(Nat.le_of_ble_eq_true rfl), (Nat.le_of_ble_eq_true rfl)⟩ rfl (Nat.le_of_ble_eq_true rfl) dX8_moreOf_224 rfl ⟨(Nat.le_of_ble_eq_true rfl), (Nat.le_of_ble_eq_true rfl)⟩) 227 rfl 0 (Nat.le_of_ble_eq_true rfl) ?_
                    refine g_iald (v := nI nr) hC hL_1 0 rfl (vp_in_nI (by omega) (by omega)) ((congrArg f (nI_clamp (by omega))).trans hnr) dX8_moreOf_227 228 rfl ?_
                    refine g_calllP (g_S (As := [.long h, .int (nI nr)]) (rest := []) hC msX8_more q3379 (met_T_more l G M h (nI nr)) ⟨rfl, rfl⟩ ⟨(Nat.le_of_ble_eq_true rfl), (Nat.le_of_ble_eq_true rfl)⟩ rfl (Nat.le_of_ble_eq_true rfl) dX8_moreOf_228 rfl ⟨(Nat.le_of_ble_eq_true rfl), (Nat.le_of_ble_eq_true rfl)⟩) 231 rfl 0 (Nat.le_of_ble_eq_true rfl) ?_
                    refine g_lstore hC dX8_moreOf_231 (Nat.le_of_ble_eq_true rfl) [(4, .long (31 * h + Int32.toInt64 (nI nr))), (0, .ref o), (3, .int (nI k)), (6, .int (nI i))] rfl 233 rfl ?_
                    refine g_iconst hC dX8_moreOf_233 ki_0 234 rfl ?_
                    refine g_istore hC dX8_moreOf_234 (Nat.le_of_ble_eq_true rfl) [(6, .int 0), (4, .long (31 * h + Int32.toInt64 (nI nr))), (0, .ref o), (3, .int (nI k))] rfl 236 rfl ?_
                    have loop236 : ∀ (n9 : Nat) (j : Nat) (h2 : Int64), (hj : j ≤ nr) → (hr2 : h2 = chR f k (31 * chW f k (31 * (31 * (31 * (31 * (31 * (31 * chE f k (31 * (31 * (31 * (31 * hh + (f (256 * k)).toInt64) + (f (256 * k + 1)).toInt64) + (f (256 * k + 4)).toInt64) + (f (256 * k + 5)).toInt64) 5 + (T_last f k).toInt64) + (f (256 * k + 12)).toInt64) + (f (256 * k + 13)).toInt64) + (f (256 * k + 14)).toInt64) + (f (256 * k + 15)).toInt64) + (nI nw).toInt64) nw + (nI nr).toInt64) j) → nr - j < n9 → (M o = some ((1, 0), .inr (7, [.ref av, .ref asp, .ref ak, .ref aik, .ref atx, .int le, .ref am, .int mn, .ref aa, .int pl, .ref ato]))) → (M av = some ((1, 1), .inl (gcs G 0, 1310, .inl f))) → gJ p l e ({ frames := 2, cells := 0, slots := 0, locals := 44 } : Room) s m ([.ref o, .long hh, .int (nI k)] : List Value).toArray below meth c G 7 (MQ below (gQl G (fun r9 M9 k9 => r9 = (chN f k nw nr hh) ∧ M9 = M ∧ k9 = 0)) ([.ref o, .long hh, .int (nI k)] : List Value).toArray s 0 0 (gA G)) 0 0 M 236 [(0, .ref o), (3, .int (nI k)), (4, .long h2), (6, .int (nI j))] [] := by
                      intro n9
                      induction n9 with
                      | zero => intro j h2 hj hr2 hmu; exact absurd hmu (Nat.not_lt_zero _)
                      | succ n9 ih =>
                        intro j h2 hj hr2 hmu hL_0 hL_1
                        refine g_iload hC dX8_moreOf_236 3 rfl 238 rfl ?_
                        refine g_aload_n hC dX8_moreOf_238 0 rfl gRef_r 239 rfl ?_
                        refine g_get (v := .ref av) hC cI7 hL_0 0 (Nat.le_of_ble_eq_true rfl) q2942 rfl dX8_moreOf_239 242 rfl ?_
                        refine g_iload_n hC dX8_moreOf_242 1 rfl 243 rfl ?_
                        refine g_bipush hC dX8_moreOf_243 kb_24 245 rfl ?_
                        refine g_calliP (g_S (As := [.int (nI k), .int 24]) (rest := [.ref av, .int (nI j)]) hC msX8_at q2939 (met_T_at l G M k 24) ⟨rfl, rfl⟩ ⟨(Nat.le_of_ble_eq_true rfl), (Nat.le_of_ble_eq_true rfl)⟩ rfl (Nat.le_of_ble_eq_true rfl) dX8_moreOf_245 rfl ⟨(Nat.le_of_ble_eq_true rfl), (Nat.le_of_ble_eq_true rfl)⟩) 248 rfl 0 (Nat.le_of_ble_eq_true rfl) ?_
                        refine g_iald (v := nI nr) hC hL_1 0 rfl (vp_in_nI (by omega) (by omega)) ((congrArg f (nI_clamp (by omega))).trans hnr) dX8_moreOf_248 249 rfl ?_
                        refine g_icmp_ge hC dX8_moreOf_249 302 rfl 252 rfl (fun c_8 => ?_) (fun c_8 => ?_)
                        · replace c_8 : nr ≤ j := nn_le (by omega) (by omega) c_8
                          refine g_lload hC dX8_moreOf_302 2 rfl 304 rfl ?_
                          exact g_lret (v := h2) hC (fun k9 hk9 => ⟨(by rw [hr2, show j = nr by omega]; rfl), rfl, Nat.le_zero.mp hk9⟩) dX8_moreOf_304 (Nat.le_of_ble_eq_true rfl) (Nat.le_of_ble_eq_true rfl)
                        · replace c_8 : j < nr := nn_nle (by omega) (by omega) c_8
                          refine g_lload hC dX8_moreOf_252 2 rfl 254 rfl ?_
                          refine g_aload_n hC dX8_moreOf_254 0 rfl gRef_r 255 rfl ?_
                          refine g_iload_n hC dX8_moreOf_255 1 rfl 256 rfl ?_
                          refine g_iload hC dX8_moreOf_256 3 rfl 258 rfl ?_
                          refine g_calliP (g_V (As := [.int (nI k), .int (nI j)]) (rest := [.long h2]) hC mvX8_gotKey q3279 (gOf.of hC.K cI7 hL_0) (met_T_gotKey l G M o av asp ak aik atx le am mn aa pl ato f k j hk (by first | assumption | decide | omega | simp_all) hL_0 hL_1) ⟨rfl, rfl⟩ ⟨(Nat.le_of_ble_eq_true rfl), (Nat.le_of_ble_eq_true rfl)⟩ rfl (Nat.le_of_ble_eq_true rfl) dX8_moreOf_258 rfl ⟨(Nat.le_of_ble_eq_true rfl), (Nat.le_of_ble_eq_true rfl)⟩) 261 rfl 0 (Nat.le_of_ble_eq_true rfl) ?_
                          refine g_calllP (g_S (As := [.long h2, .int (T_gkey f k j)]) (rest := []) hC msX8_more q3379 (met_T_more l G M h2 (T_gkey f k j)) ⟨rfl, rfl⟩ ⟨(Nat.le_of_ble_eq_true rfl), (Nat.le_of_ble_eq_true rfl)⟩ rfl (Nat.le_of_ble_eq_true rfl) dX8_moreOf_261 rfl ⟨(Nat.le_of_ble_eq_true rfl), (Nat.le_of_ble_eq_true rfl)⟩) 264 rfl 0 (Nat.le_of_ble_eq_true rfl) ?_
                          refine g_aload_n hC dX8_moreOf_264 0 rfl gRef_r 265 rfl ?_
                          refine g_get (v := .ref av) hC cI7 hL_0 0 (Nat.le_of_ble_eq_true rfl) q2942 rfl dX8_moreOf_265 268 rfl ?_
                          refine g_iload_n hC dX8_moreOf_268 1 rfl 269 rfl ?_
                          refine g_iload hC dX8_moreOf_269 3 rfl 271 rfl ?_
                          refine g_iconst hC dX8_moreOf_271 ki_2 272 rfl ?_
                          refine g_calliP (g_S (As := [.int (nI k), .int (nI j), .int 2]) (rest := [.ref av, .long (31 * h2 + Int32.toInt64 (T_gkey f k j))]) hC msX8_got q3168 (met_T_got l G M k j 2) ⟨rfl, rfl⟩ ⟨(Nat.le_of_ble_eq_true rfl), (Nat.le_of_ble_eq_true rfl)⟩ rfl (Nat.le_of_ble_eq_true rfl) dX8_moreOf_272 rfl ⟨(Nat.le_of_ble_eq_true rfl), (Nat.le_of_ble_eq_true rfl)⟩) 275 rfl 0 (Nat.le_of_ble_eq_true rfl) ?_
                          refine g_topi (y := nI (256 * k + 4 * j + 52)) (congrArg nI (show (256 * k + 4 * j + 2 + 50) = 256 * k + 4 * j + 52 by omega)) ?_
                          refine g_iald (v := f (256 * k + 4 * j + 52)) hC hL_1 0 rfl (vp_in_nI (by omega) (by omega)) ((congrArg f (nI_clamp (by omega))).trans rfl) dX8_moreOf_275 276 rfl ?_
                          refine g_calllP (g_S (As := [.long (31 * h2 + Int32.toInt64 (T_gkey f k j)), .int (f (256 * k + 4 * j + 52))]) (rest := []) hC msX8_more q3379 (met_T_more l G M (31 * h2 + Int32.toInt64 (T_gkey f k j)) (f (256 * k + 4 * j + 52))) ⟨rfl, rfl⟩ ⟨(Nat.le_of_ble_eq_true rfl), (Nat.le_of_ble_eq_true rfl)⟩ rfl (Nat.le_of_ble_eq_true rfl) dX8_moreOf_276 rfl ⟨(Nat.le_of_ble_eq_true rfl), (Nat.le_of_ble_eq_true rfl)⟩) 279 rfl 0 (Nat.le_of_ble_eq_true rfl) ?_
                          refine g_aload_n hC dX8_moreOf_279 0 rfl gRef_r 280 rfl ?_
                          refine g_get (v := .ref av) hC cI7 hL_0 0 (Nat.le_of_ble_eq_true rfl) q2942 rfl dX8_moreOf_280 283 rfl ?_
                          refine g_iload_n hC dX8_moreOf_283 1 rfl 284 rfl ?_
                          refine g_iload hC dX8_moreOf_284 3 rfl 286 rfl ?_
                          refine g_iconst hC dX8_moreOf_286 ki_3 287 rfl ?_
                          refine g_calliP (g_S (As := [.int (nI k), .int (nI j), .int 3]) (rest := [.ref av, .long (31 * (31 * h2 + Int32.toInt64 (T_gkey f k j)) + Int32.toInt64 (f (256 * k + 4 * j + 52)))]) hC msX8_got q3168 (met_T_got l G M k j 3) ⟨rfl, rfl⟩ ⟨(Nat.le_of_ble_eq_true rfl), (Nat.le_of_ble_eq_true rfl)⟩ rfl (Nat.le_of_ble_eq_true rfl) dX8_moreOf_287 rfl ⟨(Nat.le_of_ble_eq_true rfl), (Nat.le_of_ble_eq_true rfl)⟩) 290 rfl 0 (Nat.le_of_ble_eq_true rfl) ?_
                          refine g_topi (y := nI (256 * k + 4 * j + 53)) (congrArg nI (show (256 * k + 4 * j + 3 + 50) = 256 * k + 4 * j + 53 by omega)) ?_
                          refine g_iald (v := f (256 * k + 4 * j + 53)) hC hL_1 0 rfl (vp_in_nI (by omega) (by omega)) ((congrArg f (nI_clamp (by omega))).trans rfl) dX8_moreOf_290 291 rfl ?_
                          refine g_calllP (g_S (As := [.long (31 * (31 * h2 + Int32.toInt64 (T_gkey f k j)) + Int32.toInt64 (f (256 * k + 4 * j + 52))), .int (f (256 * k + 4 * j + 53))]) (rest := []) hC msX8_more q3379 (met_T_more l G M (31 * (31 * h2 + Int32.toInt64 (T_gkey f k j)) + Int32.toInt64 (f (256 * k + 4 * j + 52))) (f (256 * k + 4 * j + 53))) ⟨rfl, rfl⟩ ⟨(Nat.le_of_ble_eq_true rfl), (Nat.le_of_ble_eq_true rfl)⟩ rfl (Nat.le_of_ble_eq_true rfl) dX8_moreOf_291 rfl ⟨(Nat.le_of_ble_eq_true rfl), (Nat.le_of_ble_eq_true rfl)⟩) 294 rfl 0 (Nat.le_of_ble_eq_true rfl) ?_
                          refine g_lstore hC dX8_moreOf_294 (Nat.le_of_ble_eq_true rfl) [(4, .long (31 * (31 * (31 * h2 + Int32.toInt64 (T_gkey f k j)) + Int32.toInt64 (f (256 * k + 4 * j + 52))) + Int32.toInt64 (f (256 * k + 4 * j + 53)))), (0, .ref o), (3, .int (nI k)), (6, .int (nI j))] rfl 296 rfl ?_
                          refine g_iinc hC dX8_moreOf_296 3 rfl (v := nI (j + 1)) (by rw [ki_1]; exact nI_a (a := j) (b := 1) (c := (j + 1)) (by omega)) (Nat.le_of_ble_eq_true rfl) [(6, .int (nI (j + 1))), (4, .long (31 * (31 * (31 * h2 + Int32.toInt64 (T_gkey f k j)) + Int32.toInt64 (f (256 * k + 4 * j + 52))) + Int32.toInt64 (f (256 * k + 4 * j + 53)))), (0, .ref o), (3, .int (nI k))] rfl 299 rfl ?_
                          refine g_goto hC dX8_moreOf_299 236 rfl ?_
                          refine gJ.sub (M' := M) [2, 3, 1, 0] rfl ?_
                          exact ih (j + 1) (31 * (31 * (31 * h2 + Int32.toInt64 (T_gkey f k j)) + Int32.toInt64 (f (256 * k + 4 * j + 52))) + Int32.toInt64 (f (256 * k + 4 * j + 53))) (by omega) (by rw [hr2]; rfl) (by omega) hL_0 hL_1
                    refine gJ.sub (M' := M) [2, 3, 1, 0] rfl ?_
                    exact loop236 _ 0 (31 * h + Int32.toInt64 (nI nr)) (by omega) (by rw [hr, show i = nw by omega]; rfl) (Nat.lt_succ_self _) hL_0 hL_1
                  · replace c_7 : i < nw := nn_nle (by omega) (by omega) c_7
                    refine g_lload hC dX8_moreOf_195 2 rfl 197 rfl ?_
                    refine g_aload_n hC dX8_moreOf_197 0 rfl gRef_r 198 rfl ?_
                    refine g_iload_n hC dX8_moreOf_198 1 rfl 199 rfl ?_
                    refine g_iload hC dX8_moreOf_199 3 rfl 201 rfl ?_
                    refine g_calliP (g_V (As := [.int (nI k), .int (nI i)]) (rest := [.long h]) hC mvX8_keyOf q3263 (gOf.of hC.K cI7 hL_0) (met_T_keyOf l G M o av asp ak aik atx le am mn aa pl ato f k i hk (by first | assumption | decide | omega | simp_all) hL_0 hL_1) ⟨rfl, rfl⟩ ⟨(Nat.le_of_ble_eq_true rfl), (Nat.le_of_ble_eq_true rfl)⟩ rfl (Nat.le_of_ble_eq_true rfl) dX8_moreOf_201 rfl ⟨(Nat.le_of_ble_eq_true rfl), (Nat.le_of_ble_eq_true rfl)⟩) 204 rfl 0 (Nat.le_of_ble_eq_true rfl) ?_
                    refine g_calllP (g_S (As := [.long h, .int (T_key f k i)]) (rest := []) hC msX8_more q3379 (met_T_more l G M h (T_key f k i)) ⟨rfl, rfl⟩ ⟨(Nat.le_of_ble_eq_true rfl), (Nat.le_of_ble_eq_true rfl)⟩ rfl (Nat.le_of_ble_eq_true rfl) dX8_moreOf_204 rfl ⟨(Nat.le_of_ble_eq_true rfl), (Nat.le_of_ble_eq_true rfl)⟩) 207 rfl 0 (Nat.le_of_ble_eq_true rfl) ?_
                    refine g_lstore hC dX8_moreOf_207 (Nat.le_of_ble_eq_true rfl) [(4, .long (31 * h + Int32.toInt64 (T_key f k i))), (0, .ref o), (3, .int (nI k)), (6, .int (nI i))] rfl 209 rfl ?_
                    refine g_iinc hC dX8_moreOf_209 3 rfl (v := nI (i + 1)) (by rw [ki_1]; exact nI_a (a := i) (b := 1) (c := (i + 1)) (by omega)) (Nat.le_of_ble_eq_true rfl) [(6, .int (nI (i + 1))), (4, .long (31 * h + Int32.toInt64 (T_key f k i))), (0, .ref o), (3, .int (nI k))] rfl 212 rfl ?_
                    refine g_goto hC dX8_moreOf_212 179 rfl ?_
                    refine gJ.sub (M' := M) [2, 3, 1, 0] rfl ?_
                    exact ih (i + 1) (31 * h + Int32.toInt64 (T_key f k i)) (by omega) (by rw [hr]; rfl) (by omega) hL_0 hL_1
              refine gJ.sub (M' := M) [2, 4, 1, 0] rfl ?_
              exact loop179 _ 0 (31 * (31 * (31 * (31 * (31 * (31 * (31 * (31 * (31 * (31 * (31 * (31 * (31 * (31 * (31 * hh + Int32.toInt64 (f (256 * k))) + Int32.toInt64 (f (256 * k + 1))) + Int32.toInt64 (f (256 * k + 4))) + Int32.toInt64 (f (256 * k + 5))) + Int32.toInt64 (f (256 * k + 6))) + Int32.toInt64 (f (256 * k + 7))) + Int32.toInt64 (f (256 * k + 8))) + Int32.toInt64 (f (256 * k + 9))) + Int32.toInt64 (f (256 * k + 10))) + Int32.toInt64 (T_last f k)) + Int32.toInt64 (f (256 * k + 12))) + Int32.toInt64 (f (256 * k + 13))) + Int32.toInt64 (f (256 * k + 14))) + Int32.toInt64 (f (256 * k + 15))) + Int32.toInt64 (nI nw)) (by omega) rfl (Nat.lt_succ_self _) hM_0 hM_1
            · exact absurd c_6 (by decide)
def chS (f : Nat → Int32) (k : Nat) (h : Int64) : Int64 := chN f k (nNw f k) (nNr f k) h
theorem met_T_moreOfS (l : Launch) (G : gG) (M : gM) (o : Nat) (av : Nat) (asp : Nat) (ak : Nat) (aik : Nat) (atx : Nat) (le : Int32) (am : Nat) (mn : Int32) (aa : Nat) (pl : Int32) (ato : Nat) (f : Nat → Int32) (hh : Int64) (k : Nat) (hk : k < 4) (hok : okS f k) (hM_0 : M o = some ((1, 0), .inr (7, [.ref av, .ref asp, .ref ak, .ref aik, .ref atx, .int le, .ref am, .int mn, .ref aa, .int pl, .ref ato]))) (hM_1 : M av = some ((1, 1), .inl (gcs G 0, 1310, .inl f))) : Met l yX8_moreOf (ws_ yX8_moreOf cX8_moreOf 7 (some .long)) ({ frames := 2, cells := 0, slots := 0, locals := 44 }) (gPc G [.ref o, .long hh, .int (nI k)] M) (gQl G (fun r9 M9 k9 => r9 = chS f k hh ∧ M9 = M ∧ k9 = 0)) 0 0 (gA G) :=
  met_T_moreOf l G M o av asp ak aik atx le am mn aa pl ato f hh k (nNw f k) (nNr f k) hk hok.2.2.2.2.2.1.1 hok.2.2.2.2.2.1.2 hok.2.2.2.2.2.2.1.1 hok.2.2.2.2.2.2.1.2 hM_0 hM_1
def chB (f : Nat → Int32) (tm : Nat) (h : Int64) : Nat → Int64
  | 0 => h
  | b + 1 => 31 * chB f tm h b + (T_lev f tm (b + 1)).toInt64
set_option maxHeartbeats 4000000 in
theorem met_T_checksum (l : Launch) (G : gG) (M : gM) (o : Nat) (av : Nat) (asp : Nat) (ak : Nat) (aik : Nat) (atx : Nat) (le : Int32) (am : Nat) (mn : Int32) (aa : Nat) (pl : Int32) (ato : Nat) (f : Nat → Int32) (tm : Nat) (hok : ∀ k, k < 4 → okS f k) (htm : f 1024 = nI tm) (htm9 : tm < 1000000) (hM_0 : M o = some ((1, 0), .inr (7, [.ref av, .ref asp, .ref ak, .ref aik, .ref atx, .int le, .ref am, .int mn, .ref aa, .int pl, .ref ato]))) (hM_1 : M av = some ((1, 1), .inl (gcs G 0, 1310, .inl f))) : Met l yX8_checksum (ws_ yX8_checksum cX8_checksum 4 (some .long)) ({ frames := 3, cells := 0, slots := 0, locals := 70 }) (gPc G [.ref o] M) (gQl G (fun r9 M9 k9 => r9 = (chB f tm (chS f 3 (chS f 2 (chS f 1 (chS f 0 (31 * 11 + (nI tm).toInt64))))) 32) ∧ M9 = M ∧ k9 = 0)) 0 0 (gA G) := by
  refine gMet [(0, .ref o)] (by decide) (Nat.le_of_ble_eq_true rfl) rfl ?_
  intro p e s m below meth c hC
  refine g_ldc2 hC q3378 dX8_checksum_0 3 rfl ?_
  refine g_aload_n hC dX8_checksum_3 0 rfl gRef_r 4 rfl ?_
  refine g_get (v := .ref av) hC cI7 hM_0 0 (Nat.le_of_ble_eq_true rfl) q2942 rfl dX8_checksum_4 7 rfl ?_
  refine g_sipush hC dX8_checksum_7 ks_1024 10 rfl ?_
  refine g_iald (v := nI tm) hC hM_1 0 rfl (vp_in_nI (n := 1024) (by first | decide | omega) (by first | decide | omega)) ((congrArg f (nI_clamp (n := 1024) (by decide))).trans htm) dX8_checksum_10 11 rfl ?_
  refine g_calllP (g_S (As := [.long 11, .int (nI tm)]) (rest := []) hC msX8_more q3379 (met_T_more l G M 11 (nI tm)) ⟨rfl, rfl⟩ ⟨(Nat.le_of_ble_eq_true rfl), (Nat.le_of_ble_eq_true rfl)⟩ rfl (Nat.le_of_ble_eq_true rfl) dX8_checksum_11 rfl ⟨(Nat.le_of_ble_eq_true rfl), (Nat.le_of_ble_eq_true rfl)⟩) 14 rfl 0 (Nat.le_of_ble_eq_true rfl) ?_
  refine g_lstore_n hC dX8_checksum_14 rfl (Nat.le_of_ble_eq_true rfl) [(1, .long (31 * 11 + Int32.toInt64 (nI tm))), (0, .ref o)] rfl 15 rfl ?_
  refine g_iconst hC dX8_checksum_15 ki_0 16 rfl ?_
  refine g_istore_n hC dX8_checksum_16 rfl (Nat.le_of_ble_eq_true rfl) [(3, .int 0), (1, .long (31 * 11 + Int32.toInt64 (nI tm))), (0, .ref o)] rfl 17 rfl ?_
  refine g_iload_n hC dX8_checksum_17 0 rfl 18 rfl ?_
  refine g_iconst hC dX8_checksum_18 ki_4 19 rfl ?_
  refine g_icmp_ge hC dX8_checksum_19 35 rfl 22 rfl (fun c_1 => ?_) (fun c_1 => ?_)
  · exact absurd c_1 (by decide)
  · refine g_aload_n hC dX8_checksum_22 2 rfl gRef_r 23 rfl ?_
    refine g_lload_n hC dX8_checksum_23 1 rfl 24 rfl ?_
    refine g_iload_n hC dX8_checksum_24 0 rfl 25 rfl ?_
    refine g_calllP (g_V (As := [.long (31 * 11 + Int32.toInt64 (nI tm)), .int 0]) (rest := []) hC mvX8_moreOf q3383 (gOf.of hC.K cI7 hM_0) (met_T_moreOfS l G M o av asp ak aik atx le am mn aa pl ato f (31 * 11 + Int32.toInt64 (nI tm)) 0 (by first | assumption | decide | omega | simp_all) (hok 0 (by decide)) hM_0 hM_1) ⟨rfl, rfl⟩ ⟨(Nat.le_of_ble_eq_true rfl), (Nat.le_of_ble_eq_true rfl)⟩ rfl (Nat.le_of_ble_eq_true rfl) dX8_checksum_25 rfl ⟨(Nat.le_of_ble_eq_true rfl), (Nat.le_of_ble_eq_true rfl)⟩) 28 rfl 0 (Nat.le_of_ble_eq_true rfl) ?_
    refine g_lstore_n hC dX8_checksum_28 rfl (Nat.le_of_ble_eq_true rfl) [(1, .long (chS f 0 (31 * 11 + Int32.toInt64 (nI tm)))), (3, .int 0), (0, .ref o)] rfl 29 rfl ?_
    refine g_iinc hC dX8_checksum_29 1 rfl (v := 1) (by rw [ki_1]; exact nI_a (a := 0) (b := 1) (c := 1) (by omega)) (Nat.le_of_ble_eq_true rfl) [(3, .int 1), (1, .long (chS f 0 (31 * 11 + Int32.toInt64 (nI tm)))), (0, .ref o)] rfl 32 rfl ?_
    refine g_goto hC dX8_checksum_32 17 rfl ?_
    refine g_iload_n hC dX8_checksum_17 0 rfl 18 rfl ?_
    refine g_iconst hC dX8_checksum_18 ki_4 19 rfl ?_
    refine g_icmp_ge hC dX8_checksum_19 35 rfl 22 rfl (fun c_2 => ?_) (fun c_2 => ?_)
    · exact absurd c_2 (by decide)
    · refine g_aload_n hC dX8_checksum_22 2 rfl gRef_r 23 rfl ?_
      refine g_lload_n hC dX8_checksum_23 1 rfl 24 rfl ?_
      refine g_iload_n hC dX8_checksum_24 0 rfl 25 rfl ?_
      refine g_calllP (g_V (As := [.long (chS f 0 (31 * 11 + Int32.toInt64 (nI tm))), .int 1]) (rest := []) hC mvX8_moreOf q3383 (gOf.of hC.K cI7 hM_0) (met_T_moreOfS l G M o av asp ak aik atx le am mn aa pl ato f (chS f 0 (31 * 11 + Int32.toInt64 (nI tm))) 1 (by first | assumption | decide | omega | simp_all) (hok 1 (by decide)) hM_0 hM_1) ⟨rfl, rfl⟩ ⟨(Nat.le_of_ble_eq_true rfl), (Nat.le_of_ble_eq_true rfl)⟩ rfl (Nat.le_of_ble_eq_true rfl) dX8_checksum_25 rfl ⟨(Nat.le_of_ble_eq_true rfl), (Nat.le_of_ble_eq_true rfl)⟩) 28 rfl 0 (Nat.le_of_ble_eq_true rfl) ?_
      refine g_lstore_n hC dX8_checksum_28 rfl (Nat.le_of_ble_eq_true rfl) [(1, .long (chS f 1 (chS f 0 (31 * 11 + Int32.toInt64 (nI tm))))), (3, .int 1), (0, .ref o)] rfl 29 rfl ?_
      refine g_iinc hC dX8_checksum_29 1 rfl (v := 2) (by rw [ki_1]; exact nI_a (a := 1) (b := 1) (c := 2) (by omega)) (Nat.le_of_ble_eq_true rfl) [(3, .int 2), (1, .long (chS f 1 (chS f 0 (31 * 11 + Int32.toInt64 (nI tm))))), (0, .ref o)] rfl 32 rfl ?_
      refine g_goto hC dX8_checksum_32 17 rfl ?_
      refine g_iload_n hC dX8_checksum_17 0 rfl 18 rfl ?_
      refine g_iconst hC dX8_checksum_18 ki_4 19 rfl ?_
      refine g_icmp_ge hC dX8_checksum_19 35 rfl 22 rfl (fun c_3 => ?_) (fun c_3 => ?_)
      · exact absurd c_3 (by decide)
      · refine g_aload_n hC dX8_checksum_22 2 rfl gRef_r 23 rfl ?_
        refine g_lload_n hC dX8_checksum_23 1 rfl 24 rfl ?_
        refine g_iload_n hC dX8_checksum_24 0 rfl 25 rfl ?_
        refine g_calllP (g_V (As := [.long (chS f 1 (chS f 0 (31 * 11 + Int32.toInt64 (nI tm)))), .int 2]) (rest := []) hC mvX8_moreOf q3383 (gOf.of hC.K cI7 hM_0) (met_T_moreOfS l G M o av asp ak aik atx le am mn aa pl ato f (chS f 1 (chS f 0 (31 * 11 + Int32.toInt64 (nI tm)))) 2 (by first | assumption | decide | omega | simp_all) (hok 2 (by decide)) hM_0 hM_1) ⟨rfl, rfl⟩ ⟨(Nat.le_of_ble_eq_true rfl), (Nat.le_of_ble_eq_true rfl)⟩ rfl (Nat.le_of_ble_eq_true rfl) dX8_checksum_25 rfl ⟨(Nat.le_of_ble_eq_true rfl), (Nat.le_of_ble_eq_true rfl)⟩) 28 rfl 0 (Nat.le_of_ble_eq_true rfl) ?_
        refine g_lstore_n hC dX8_checksum_28 rfl (Nat.le_of_ble_eq_true rfl) [(1, .long (chS f 2 (chS f 1 (chS f 0 (31 * 11 + Int32.toInt64 (nI tm)))))), (3, .int 2), (0, .ref o)] rfl 29 rfl ?_
        refine g_iinc hC dX8_checksum_29 1 rfl (v := 3) (by rw [ki_1]; exact nI_a (a := 2) (b := 1) (c := 3) (by omega)) (Nat.le_of_ble_eq_true rfl) [(3, .int 3), (1, .long (chS f 2 (chS f 1 (chS f 0 (31 * 11 + Int32.toInt64 (nI tm)))))), (0, .ref o)] rfl 32 rfl ?_
        refine g_goto hC dX8_checksum_32 17 rfl ?_
        refine g_iload_n hC dX8_checksum_17 0 rfl 18 rfl ?_
        refine g_iconst hC dX8_checksum_18 ki_4 19 rfl ?_
        refine g_icmp_ge hC dX8_checksum_19 35 rfl 22 rfl (fun c_4 => ?_) (fun c_4 => ?_)
        · exact absurd c_4 (by decide)
        · refine g_aload_n hC dX8_checksum_22 2 rfl gRef_r 23 rfl ?_
          refine g_lload_n hC dX8_checksum_23 1 rfl 24 rfl ?_
          refine g_iload_n hC dX8_checksum_24 0 rfl 25 rfl ?_
          refine g_calllP (g_V (As := [.long (chS f 2 (chS f 1 (chS f 0 (31 * 11 + Int32.toInt64 (nI tm))))), .int 3]) (rest := []) hC mvX8_moreOf q3383 (gOf.of hC.K cI7 hM_0) (met_T_moreOfS l G M o av asp ak aik atx le am mn aa pl ato f (chS f 2 (chS f 1 (chS f 0 (31 * 11 + Int32.toInt64 (nI tm))))) 3 (by first | assumption | decide | omega | simp_all) (hok 3 (by decide)) hM_0 hM_1) ⟨rfl, rfl⟩ ⟨(Nat.le_of_ble_eq_true rfl), (Nat.le_of_ble_eq_true rfl)⟩ rfl (Nat.le_of_ble_eq_true rfl) dX8_checksum_25 rfl ⟨(Nat.le_of_ble_eq_true rfl), (Nat.le_of_ble_eq_true rfl)⟩) 28 rfl 0 (Nat.le_of_ble_eq_true rfl) ?_
          refine g_lstore_n hC dX8_checksum_28 rfl (Nat.le_of_ble_eq_true rfl) [(1, .long (chS f 3 (chS f 2 (chS f 1 (chS f 0 (31 * 11 + Int32.toInt64 (nI tm))))))), (3, .int 3), (0, .ref o)] rfl 29 rfl ?_
          refine g_iinc hC dX8_checksum_29 1 rfl (v := 4) (by rw [ki_1]; exact nI_a (a := 3) (b := 1) (c := 4) (by omega)) (Nat.le_of_ble_eq_true rfl) [(3, .int 4), (1, .long (chS f 3 (chS f 2 (chS f 1 (chS f 0 (31 * 11 + Int32.toInt64 (nI tm))))))), (0, .ref o)] rfl 32 rfl ?_
          refine g_goto hC dX8_checksum_32 17 rfl ?_
          refine g_iload_n hC dX8_checksum_17 0 rfl 18 rfl ?_
          refine g_iconst hC dX8_checksum_18 ki_4 19 rfl ?_
          refine g_icmp_ge hC dX8_checksum_19 35 rfl 22 rfl (fun c_5 => ?_) (fun c_5 => ?_)
          · refine g_iconst hC dX8_checksum_35 ki_1 36 rfl ?_
            refine g_istore_n hC dX8_checksum_36 rfl (Nat.le_of_ble_eq_true rfl) [(3, .int 1), (1, .long (chS f 3 (chS f 2 (chS f 1 (chS f 0 (31 * 11 + Int32.toInt64 (nI tm))))))), (0, .ref o)] rfl 37 rfl ?_
            have loop37 : ∀ (n9 : Nat) (b : Nat) (h : Int64), (hb : b ≤ 32) → (hr : h = chB f tm (chS f 3 (chS f 2 (chS f 1 (chS f 0 (31 * 11 + (nI tm).toInt64))))) b) → 32 - b < n9 → (M o = some ((1, 0), .inr (7, [.ref av, .ref asp, .ref ak, .ref aik, .ref atx, .int le, .ref am, .int mn, .ref aa, .int pl, .ref ato]))) → (M av = some ((1, 1), .inl (gcs G 0, 1310, .inl f))) → gJ p l e ({ frames := 3, cells := 0, slots := 0, locals := 70 } : Room) s m ([.ref o] : List Value).toArray below meth c G 4 (MQ below (gQl G (fun r9 M9 k9 => r9 = (chB f tm (chS f 3 (chS f 2 (chS f 1 (chS f 0 (31 * 11 + (nI tm).toInt64))))) 32) ∧ M9 = M ∧ k9 = 0)) ([.ref o] : List Value).toArray s 0 0 (gA G)) 0 0 M 37 [(0, .ref o), (1, .long h), (3, .int (nI (b + 1)))] [] := by
              intro n9
              induction n9 with
              | zero => intro b h hb hr hmu; exact absurd hmu (Nat.not_lt_zero _)
              | succ n9 ih =>
                intro b h hb hr hmu hL_0 hL_1
                refine g_iload_n hC dX8_checksum_37 2 rfl 38 rfl ?_
                refine g_bipush hC dX8_checksum_38 kb_32 40 rfl ?_
                refine g_icmp_gt hC dX8_checksum_40 59 rfl 43 rfl (fun c_6 => ?_) (fun c_6 => ?_)
                · replace c_6 : 32 < b + 1 := nn_lt (by omega) (by omega) c_6
                  refine g_lload_n hC dX8_checksum_59 1 rfl 60 rfl ?_
                  exact g_lret (v := h) hC (fun k9 hk9 => ⟨(by rw [hr, show b = 32 by omega]), rfl, Nat.le_zero.mp hk9⟩) dX8_checksum_60 (Nat.le_of_ble_eq_true rfl) (Nat.le_of_ble_eq_true rfl)
                · replace c_6 : b + 1 ≤ 32 := nn_nlt (by omega) (by omega) c_6
                  refine g_lload_n hC dX8_checksum_43 1 rfl 44 rfl ?_
                  refine g_aload_n hC dX8_checksum_44 0 rfl gRef_r 45 rfl ?_
                  refine g_iload_n hC dX8_checksum_45 2 rfl 46 rfl ?_
                  refine g_calliP (g_V (As := [.int (nI (b + 1))]) (rest := [.long h]) hC mvX8_level q3387 (gOf.of hC.K cI7 hL_0) (met_T_level l G M o av asp ak aik atx le am mn aa pl ato f (b + 1) tm (by first | assumption | decide | omega | simp_all) (by first | assumption | decide | omega | simp_all) htm htm9 hL_0 hL_1) ⟨rfl, rfl⟩ ⟨(Nat.le_of_ble_eq_true rfl), (Nat.le_of_ble_eq_true rfl)⟩ rfl (Nat.le_of_ble_eq_true rfl) dX8_checksum_46 rfl ⟨(Nat.le_of_ble_eq_true rfl), (Nat.le_of_ble_eq_true rfl)⟩) 49 rfl 0 (Nat.le_of_ble_eq_true rfl) ?_
                  refine g_calllP (g_S (As := [.long h, .int (T_lev f tm (b + 1))]) (rest := []) hC msX8_more q3379 (met_T_more l G M h (T_lev f tm (b + 1))) ⟨rfl, rfl⟩ ⟨(Nat.le_of_ble_eq_true rfl), (Nat.le_of_ble_eq_true rfl)⟩ rfl (Nat.le_of_ble_eq_true rfl) dX8_checksum_49 rfl ⟨(Nat.le_of_ble_eq_true rfl), (Nat.le_of_ble_eq_true rfl)⟩) 52 rfl 0 (Nat.le_of_ble_eq_true rfl) ?_
                  refine g_lstore_n hC dX8_checksum_52 rfl (Nat.le_of_ble_eq_true rfl) [(1, .long (31 * h + Int32.toInt64 (T_lev f tm (b + 1)))), (0, .ref o), (3, .int (nI (b + 1)))] rfl 53 rfl ?_
                  refine g_iinc hC dX8_checksum_53 2 rfl (v := nI (b + 2)) (by rw [ki_1]; exact nI_a (a := (b + 1)) (b := 1) (c := (b + 2)) (by omega)) (Nat.le_of_ble_eq_true rfl) [(3, .int (nI (b + 2))), (1, .long (31 * h + Int32.toInt64 (T_lev f tm (b + 1)))), (0, .ref o)] rfl 56 rfl ?_
                  refine g_goto hC dX8_checksum_56 37 rfl ?_
                  refine gJ.sub (M' := M) [2, 1, 0] rfl ?_
                  exact ih (b + 1) (31 * h + Int32.toInt64 (T_lev f tm (b + 1))) (by omega) (by rw [hr]; rfl) (by omega) hL_0 hL_1
            refine gJ.sub (M' := M) [2, 1, 0] rfl ?_
            exact loop37 _ 0 (chS f 3 (chS f 2 (chS f 1 (chS f 0 (31 * 11 + Int32.toInt64 (nI tm)))))) (by omega) rfl (Nat.lt_succ_self _) hM_0 hM_1
          · exact absurd c_5 (by decide)
