/-! TreeMap: successor, iterators over keys -/
set_option maxRecDepth 100000
theorem g_instS {p : Program} {l : Launch} {e : Env} {R : Room} {s : State} {m : MethodId} {args : Array Value} {below : List Frame} {meth : Method} {c : Code} {G : gG} {nL : Nat} {Q : State → Prop} {cells slots : Nat} {M : gM} {pc : Nat} {lv : List (Nat × Value)} {st : List Value} {cc : ByteArray} {own nm : String} {ret : Option FieldType} (hC : gC p s m args meth c G nL cc own nm ret) {X : String} {a : Nat} {cC : ClassId} (hat : ClassAt s X cC) (hv : gOf G s M X a) {index : Nat} (hlink : Cond.classLink own index X ∈ lw_all) (hd : decode cc pc = .ok (.instanceof index, 3)) (q : Nat) (hq : pc + 3 = q) (k : gJ p l e R s m args below meth c G nL Q cells slots M q lv (.int 1 :: st)) : gJ p l e R s m args below meth c G nL Q cells slots M pc lv (.ref a :: st) := by
  subst hq
  intro H locs ls hW hS hl
  obtain ⟨cell, h1, h2, h3⟩ := hv H locs hW hS
  exact va_instS hC.hx hC.hb hC.ho (hC.ts _ hlink) hat ⟨cell, h1, h2, h3⟩ hd (k H locs ls hW hS hl)
set_option maxHeartbeats 4000000 in
theorem met_TM_succ (l : Launch) (G : gG) (M : gM) (t1 : Nat × Nat) (Ns : List Nat) (kb : Nat → Nat) (vl : Nat → Nat) (lf : Nat → Option Nat) (rt : Nat → Option Nat) (pa : Nat → Option Nat) (co : Nat → Bool) (r : Option Nat) (ky : Nat → Int32) (lo : Nat → Option Nat) (hi : Nat → Option Nat) (a : Nat) (hI : tmI r Ns (kyR ky) lf rt pa lo hi) (hS : tmS Ns ky) (ham : a ∈ Ns)  (hP_0 : tmE M t1 Ns kb vl lf rt pa co) : Met l yJ9_successor (ws_ yJ9_successor cJ9_successor 3 (some (.object "java/util/TreeMap$Entry"))) ({ frames := 0, cells := 0, slots := 0, locals := 0 }) (gPc G [.ref a] M) (gQq G (fun r9 M9 k9 => r9 = (tmH Ns ky (ky a)) ∧ M9 = M ∧ k9 = 0)) 0 0 (gA G) := by
  refine gMet [(0, .ref a)] (by decide) (Nat.le_of_ble_eq_true rfl) rfl ?_
  intro p e s m below meth c hC
  refine g_aload_n hC dJ9_successor_0 0 rfl gRef_r 1 rfl ?_
  refine g_ifnonnull (r := some a) hC dJ9_successor_1 6 rfl 4 rfl (fun _ _ => ?_) (fun q => by cases q)
  refine g_aload_n hC dJ9_successor_6 0 rfl gRef_r 7 rfl ?_
  refine g_get (v := va_rf (rt a)) hC cI25 (hP_0 a ham) 3 (Nat.le_of_ble_eq_true rfl) q1030 rfl dJ9_successor_7 10 rfl ?_
  refine g_ifnull hC dJ9_successor_10 35 rfl 13 rfl (fun e_3 => ?_) (fun x_2 e_3 => ?_)
  · refine g_aload_n hC dJ9_successor_35 0 rfl gRef_r 36 rfl ?_
    refine g_get (v := va_rf (pa a)) hC cI25 (hP_0 a ham) 4 (Nat.le_of_ble_eq_true rfl) q1032 rfl dJ9_successor_36 39 rfl ?_
    refine g_astore_n hC dJ9_successor_39 rfl gRef_q (Nat.le_of_ble_eq_true rfl) [(1, va_rf (pa a)), (0, .ref a)] rfl 40 rfl ?_
    refine g_aload_n hC dJ9_successor_40 1 rfl gRef_r 41 rfl ?_
    refine g_astore_n hC dJ9_successor_41 rfl gRef_r (Nat.le_of_ble_eq_true rfl) [(2, .ref a), (1, va_rf (pa a)), (0, .ref a)] (by simp [gcat_q]) 42 rfl ?_
    have loop42 : ∀ (n9 : Nat) (q1 : Option Nat) (ch : Nat), (hcm : ch ∈ Ns) → (hq : q1 = pa ch) → (hch : hi ch = hi a) → Ns.length - tmw Ns (kyR ky) lo hi ch < n9 → (tmE M t1 Ns kb vl lf rt pa co) → gJ p l e ({ frames := 0, cells := 0, slots := 0, locals := 0 } : Room) s m ([.ref a] : List Value).toArray below meth c G 3 (MQ below (gQq G (fun r9 M9 k9 => r9 = (tmH Ns ky (ky a)) ∧ M9 = M ∧ k9 = 0)) ([.ref a] : List Value).toArray s 0 0 (gA G)) 0 0 M 42 [(1, va_rf q1), (2, .ref ch)] [] := by
      intro n9
      induction n9 with
      | zero => intro q1 ch hcm hq hch hmu; exact absurd hmu (Nat.not_lt_zero _)
      | succ n9 ih =>
        intro q1 ch hcm hq hch hmu  hLp_0
        refine g_aload_n hC dJ9_successor_42 0 rfl gRef_q 43 rfl ?_
        refine g_ifnull hC dJ9_successor_43 64 rfl 46 rfl (fun e_5 => ?_) (fun x_4 e_5 => ?_)
        · subst e_5
          refine g_aload_n hC dJ9_successor_64 0 rfl gRef_n 65 rfl ?_
          exact g_aret (v := none) hC (by first | exact Or.inl ⟨_, rfl⟩ | exact Or.inr ⟨_, rfl⟩) (fun k9 hk9 => ⟨(by rw [hI.hgR hS ham (hI.own ham) (Int32.le_refl _) e_3, ← hch]; exact (hI.top hcm hq.symm).2.symm), rfl, Nat.le_zero.mp hk9⟩) dJ9_successor_65 (Nat.le_of_ble_eq_true rfl) (Nat.le_of_ble_eq_true rfl)
        · subst e_5
          obtain ⟨hqm, -⟩ := hI.2.2.2.2.2.2.2.2.1 ch hcm x_4 hq.symm
          refine g_aload_n hC dJ9_successor_46 1 rfl gRef_r 47 rfl ?_
          refine g_aload_n hC dJ9_successor_47 0 rfl gRef_r 48 rfl ?_
          refine g_get (v := va_rf (rt x_4)) hC cI25 (hLp_0 x_4 hqm) 3 (Nat.le_of_ble_eq_true rfl) q1030 rfl dJ9_successor_48 51 rfl ?_
          refine g_acmp_ne (rx := some ch) (ry := rt x_4) hC dJ9_successor_51 64 rfl 54 rfl (fun c_6 => ?_) (fun c_6 => ?_)
          · refine g_aload_n hC dJ9_successor_64 0 rfl gRef_r 65 rfl ?_
            exact g_aret (v := some x_4) hC (by first | exact Or.inl ⟨_, rfl⟩ | exact Or.inr ⟨_, rfl⟩) (fun k9 hk9 => ⟨(by rw [hI.hgR hS ham (hI.own ham) (Int32.le_refl _) e_3, ← hch]; exact (hI.stopR hcm hq.symm c_6).symm), rfl, Nat.le_zero.mp hk9⟩) dJ9_successor_65 (Nat.le_of_ble_eq_true rfl) (Nat.le_of_ble_eq_true rfl)
          · refine g_aload_n hC dJ9_successor_54 0 rfl gRef_r 55 rfl ?_
            refine g_astore_n hC dJ9_successor_55 rfl gRef_r (Nat.le_of_ble_eq_true rfl) [(2, .ref x_4), (1, .ref x_4)] rfl 56 rfl ?_
            refine g_aload_n hC dJ9_successor_56 1 rfl gRef_r 57 rfl ?_
            refine g_get (v := va_rf (pa x_4)) hC cI25 (hLp_0 x_4 hqm) 4 (Nat.le_of_ble_eq_true rfl) q1032 rfl dJ9_successor_57 60 rfl ?_
            refine g_astore_n hC dJ9_successor_60 rfl gRef_q (Nat.le_of_ble_eq_true rfl) [(1, va_rf (pa x_4)), (2, .ref x_4)] rfl 61 rfl ?_
            refine g_goto hC dJ9_successor_61 42 rfl ?_
            exact ih (pa x_4) x_4 hqm rfl ((hI.upR hqm c_6.symm).symm.trans hch) (by have h1 := hI.wP hcm hq.symm; have h2 := tmw_le (Ns := Ns) (ρ := kyR ky) (lo := lo) (hi := hi) (a := x_4); omega) hLp_0
    refine gJ.sub (M' := M) [1, 0] rfl ?_
    exact loop42 _ (pa a) a ham rfl rfl (Nat.lt_succ_self _) hP_0
  · obtain ⟨hxm, -, hxl, -⟩ := hI.2.2.2.2.2.1 a ham x_2 e_3
    refine g_aload_n hC dJ9_successor_13 0 rfl gRef_r 14 rfl ?_
    refine g_get (v := va_rf (rt a)) hC cI25 (hP_0 a ham) 3 (Nat.le_of_ble_eq_true rfl) q1030 rfl dJ9_successor_14 17 rfl ?_
    refine g_topv (y := .ref x_2) (congrArg va_rf (show rt a = some x_2 from e_3)) ?_
    refine g_astore_n hC dJ9_successor_17 rfl gRef_r (Nat.le_of_ble_eq_true rfl) [(1, .ref x_2), (0, .ref a)] rfl 18 rfl ?_
    have loop18 : ∀ (n9 : Nat) (b : Nat), (hbm : b ∈ Ns) → (hbl : lo b = some a) → tmw Ns (kyR ky) lo hi b < n9 → (tmE M t1 Ns kb vl lf rt pa co) → gJ p l e ({ frames := 0, cells := 0, slots := 0, locals := 0 } : Room) s m ([.ref a] : List Value).toArray below meth c G 3 (MQ below (gQq G (fun r9 M9 k9 => r9 = (tmH Ns ky (ky a)) ∧ M9 = M ∧ k9 = 0)) ([.ref a] : List Value).toArray s 0 0 (gA G)) 0 0 M 18 [(1, .ref b)] [] := by
      intro n9
      induction n9 with
      | zero => intro b hbm hbl hmu; exact absurd hmu (Nat.not_lt_zero _)
      | succ n9 ih =>
        intro b hbm hbl hmu  hLp_0
        refine g_aload_n hC dJ9_successor_18 0 rfl gRef_r 19 rfl ?_
        refine g_get (v := va_rf (lf b)) hC cI25 (hLp_0 b hbm) 2 (Nat.le_of_ble_eq_true rfl) q1028 rfl dJ9_successor_19 22 rfl ?_
        refine g_ifnull hC dJ9_successor_22 33 rfl 25 rfl (fun e_8 => ?_) (fun x_7 e_8 => ?_)
        · refine g_aload_n hC dJ9_successor_33 0 rfl gRef_r 34 rfl ?_
          exact g_aret (v := some b) hC (by first | exact Or.inl ⟨_, rfl⟩ | exact Or.inr ⟨_, rfl⟩) (fun k9 hk9 => ⟨(hI.lm hS ham hbm hbl e_8).symm, rfl, Nat.le_zero.mp hk9⟩) dJ9_successor_34 (Nat.le_of_ble_eq_true rfl) (Nat.le_of_ble_eq_true rfl)
        · obtain ⟨hxm, -, hxl, -⟩ := hI.2.2.2.2.1 b hbm x_7 e_8
          refine g_aload_n hC dJ9_successor_25 0 rfl gRef_r 26 rfl ?_
          refine g_get (v := va_rf (lf b)) hC cI25 (hLp_0 b hbm) 2 (Nat.le_of_ble_eq_true rfl) q1028 rfl dJ9_successor_26 29 rfl ?_
          refine g_topv (y := .ref x_7) (congrArg va_rf (show lf b = some x_7 from e_8)) ?_
          refine g_astore_n hC dJ9_successor_29 rfl gRef_r (Nat.le_of_ble_eq_true rfl) [(1, .ref x_7)] rfl 30 rfl ?_
          refine g_goto hC dJ9_successor_30 18 rfl ?_
          exact ih x_7 hxm (hxl.trans hbl) (Nat.lt_of_lt_of_le (hI.wL hbm e_8) (Nat.le_of_lt_succ hmu)) hLp_0
    refine gJ.sub (M' := M) [0] rfl ?_
    exact loop18 _ x_2 hxm hxl (Nat.lt_succ_self _) hP_0
set_option maxHeartbeats 4000000 in
theorem met_TM_first (l : Launch) (G : gG) (M : gM) (mp : Nat) (t0 : Nat × Nat) (cm : Nat) (r : Option Nat) (n : Nat) (mc : Int32) (ks : Option Nat) (t1 : Nat × Nat) (Ns : List Nat) (kb : Nat → Nat) (vl : Nat → Nat) (lf : Nat → Option Nat) (rt : Nat → Option Nat) (pa : Nat → Option Nat) (co : Nat → Bool) (ky : Nat → Int32) (lo : Nat → Option Nat) (hi : Nat → Option Nat) (hI : tmI r Ns (kyR ky) lf rt pa lo hi) (hS : tmS Ns ky) (hM_0 : M mp = some (t0, .inr (24, [.null, .null, .ref cm, va_rf r, .int (nI n), .int mc, .null, va_rf ks, .null]))) (hP_0 : tmE M t1 Ns kb vl lf rt pa co) : Met l yJ9_getFirstEntry (ws_ yJ9_getFirstEntry cJ9_getFirstEntry 2 (some (.object "java/util/TreeMap$Entry"))) ({ frames := 0, cells := 0, slots := 0, locals := 0 }) (gPc G [.ref mp] M) (gQq G (fun r9 M9 k9 => r9 = (Ns.head?) ∧ M9 = M ∧ k9 = 0)) 0 0 (gA G) := by
  refine gMet [(0, .ref mp)] (by decide) (Nat.le_of_ble_eq_true rfl) rfl ?_
  intro p e s m below meth c hC
  refine g_aload_n hC dJ9_getFirstEntry_0 0 rfl gRef_r 1 rfl ?_
  refine g_get (v := va_rf r) hC cI24 hM_0 3 (Nat.le_of_ble_eq_true rfl) q343 rfl dJ9_getFirstEntry_1 4 rfl ?_
  rcases hr : r with _ | r9
  · skip
    refine g_astore_n hC dJ9_getFirstEntry_4 rfl gRef_n (Nat.le_of_ble_eq_true rfl) [(1, .null), (0, .ref mp)] rfl 5 rfl ?_
    refine g_aload_n hC dJ9_getFirstEntry_5 0 rfl gRef_n 6 rfl ?_
    refine g_ifnull (r := none) hC dJ9_getFirstEntry_6 24 rfl 9 rfl (fun _ => ?_) (fun _ q => by cases q)
    refine g_aload_n hC dJ9_getFirstEntry_24 0 rfl gRef_n 25 rfl ?_
    exact g_aret (v := none) hC (by first | exact Or.inl ⟨_, rfl⟩ | exact Or.inr ⟨_, rfl⟩) (fun k9 hk9 => ⟨(by rw [hI.2.2.1 hr]; rfl), rfl, Nat.le_zero.mp hk9⟩) dJ9_getFirstEntry_25 (Nat.le_of_ble_eq_true rfl) (Nat.le_of_ble_eq_true rfl)
  · skip
    refine g_astore_n hC dJ9_getFirstEntry_4 rfl gRef_r (Nat.le_of_ble_eq_true rfl) [(1, .ref r9), (0, .ref mp)] rfl 5 rfl ?_
    refine g_aload_n hC dJ9_getFirstEntry_5 0 rfl gRef_r 6 rfl ?_
    refine g_ifnull (r := some r9) hC dJ9_getFirstEntry_6 24 rfl 9 rfl (fun q => by cases q) (fun _ _ => ?_)
    have loop9 : ∀ (n9 : Nat) (a : Nat), (ham : a ∈ Ns) → (hal : lo a = none) → tmw Ns (kyR ky) lo hi a < n9 → (tmE M t1 Ns kb vl lf rt pa co) → gJ p l e ({ frames := 0, cells := 0, slots := 0, locals := 0 } : Room) s m ([.ref mp] : List Value).toArray below meth c G 2 (MQ below (gQq G (fun r9 M9 k9 => r9 = (Ns.head?) ∧ M9 = M ∧ k9 = 0)) ([.ref mp] : List Value).toArray s 0 0 (gA G)) 0 0 M 9 [(1, .ref a)] [] := by
      intro n9
      induction n9 with
      | zero => intro a ham hal hmu; exact absurd hmu (Nat.not_lt_zero _)
      | succ n9 ih =>
        intro a ham hal hmu  hLp_0
        refine g_aload_n hC dJ9_getFirstEntry_9 0 rfl gRef_r 10 rfl ?_
        refine g_get (v := va_rf (lf a)) hC cI25 (hLp_0 a ham) 2 (Nat.le_of_ble_eq_true rfl) q1028 rfl dJ9_getFirstEntry_10 13 rfl ?_
        refine g_ifnull hC dJ9_getFirstEntry_13 24 rfl 16 rfl (fun e_4 => ?_) (fun x_3 e_4 => ?_)
        · refine g_aload_n hC dJ9_getFirstEntry_24 0 rfl gRef_r 25 rfl ?_
          exact g_aret (v := some a) hC (by first | exact Or.inl ⟨_, rfl⟩ | exact Or.inr ⟨_, rfl⟩) (fun k9 hk9 => ⟨(hI.fst hS ham hal e_4).symm, rfl, Nat.le_zero.mp hk9⟩) dJ9_getFirstEntry_25 (Nat.le_of_ble_eq_true rfl) (Nat.le_of_ble_eq_true rfl)
        · obtain ⟨hxm, -, hxl, -⟩ := hI.2.2.2.2.1 a ham x_3 e_4
          refine g_aload_n hC dJ9_getFirstEntry_16 0 rfl gRef_r 17 rfl ?_
          refine g_get (v := va_rf (lf a)) hC cI25 (hLp_0 a ham) 2 (Nat.le_of_ble_eq_true rfl) q1028 rfl dJ9_getFirstEntry_17 20 rfl ?_
          refine g_topv (y := .ref x_3) (congrArg va_rf (show lf a = some x_3 from e_4)) ?_
          refine g_astore_n hC dJ9_getFirstEntry_20 rfl gRef_r (Nat.le_of_ble_eq_true rfl) [(1, .ref x_3)] rfl 21 rfl ?_
          refine g_goto hC dJ9_getFirstEntry_21 9 rfl ?_
          exact ih x_3 hxm (hxl.trans hal) (Nat.lt_of_lt_of_le (hI.wL ham e_4) (Nat.le_of_lt_succ hmu)) hLp_0
    refine gJ.sub (M' := M) [0] rfl ?_
    exact loop9 _ r9 ((hI.2.1 r9 hr).1) ((hI.2.1 r9 hr).2.2.1) (Nat.lt_succ_self _) hP_0
set_option maxHeartbeats 4000000 in
theorem met_TMi_init0 (l : Launch) (G : gG) (M : gM) (mp : Nat) (t0 : Nat × Nat) (cm : Nat) (r : Option Nat) (n : Nat) (mc : Int32) (ks : Option Nat) (it : Nat) (nx : Option Nat)  (hM_0 : M mp = some (t0, .inr (24, [.null, .null, .ref cm, va_rf r, .int (nI n), .int mc, .null, va_rf ks, .null]))) (hM_1 : M it = some ((9, 1), .inr (27, [.null, .null, .int 0, .null]))) : Met l yJ40_init (ws_ yJ40_init cJ40_init 3 none) ({ frames := 1, cells := 0, slots := 0, locals := 12 }) (gPc G [.ref it, .ref mp, va_rf nx] M) (gQv G (fun M9 k9 => M9 it = some ((9, 1), .inr (27, [va_rf nx, .null, .int mc, .ref mp])) ∧ gFr (gL [it]) M M9 ∧ k9 = 0)) 0 0 (gA G) := by
  refine gMet [(0, .ref it), (1, .ref mp), (2, va_rf nx)] (by decide) (by cases nx <;> exact Nat.le_of_ble_eq_true rfl) (by cases nx <;> rfl) ?_
  intro p e s m below meth c hC
  refine g_aload_n hC dJ40_init_0 0 rfl gRef_r 1 rfl ?_
  refine g_aload_n hC dJ40_init_1 1 rfl gRef_r 2 rfl ?_
  refine g_putF hC cI27 hM_1 3 (Nat.le_of_ble_eq_true rfl) q2529 rfl rfl rfl rfl (Nat.le_of_ble_eq_true rfl) dJ40_init_2 (fs' := [.null, .null, .int 0, .ref mp]) rfl 5 rfl (fun M1 hU2 => ?_)
  refine g_aload_n hC dJ40_init_5 0 rfl gRef_r 6 rfl ?_
  refine g_objInit hC q2525 q176 q177 dJ40_init_6 (Nat.le_of_ble_eq_true rfl) (Nat.le_of_ble_eq_true rfl) 9 rfl ?_
  refine g_aload_n hC dJ40_init_9 0 rfl gRef_r 10 rfl ?_
  refine g_aload_n hC dJ40_init_10 1 rfl gRef_r 11 rfl ?_
  refine g_getN (v := .int mc) hC cI24 (hU2.n (gne_c hM_0 hM_1 (by decide)) hM_0) 5 (Nat.le_of_ble_eq_true rfl) q345 rfl dJ40_init_11 14 rfl ?_
  refine g_put hC cI27 hU2.1 2 (Nat.le_of_ble_eq_true rfl) q2528 rfl rfl rfl (Nat.le_of_ble_eq_true rfl) dJ40_init_14 (fs' := [.null, .null, .int mc, .ref mp]) rfl 17 rfl (fun M3 hU4 => ?_)
  refine g_aload_n hC dJ40_init_17 0 rfl gRef_r 18 rfl ?_
  refine g_null hC dJ40_init_18 19 rfl ?_
  refine g_put hC cI27 hU4.1 1 (Nat.le_of_ble_eq_true rfl) q2527 rfl rfl rfl (Nat.le_of_ble_eq_true rfl) dJ40_init_19 (fs' := [.null, .null, .int mc, .ref mp]) rfl 22 rfl (fun M5 hU6 => ?_)
  have hH7 := (hU6.n (gne_c (hU4.n (gne_c (hU2.n (gne_c hM_0 hM_1 (by decide)) hM_0) hU2.1 (by decide)) (hU2.n (gne_c hM_0 hM_1 (by decide)) hM_0)) hU4.1 (by decide)) (hU4.n (gne_c (hU2.n (gne_c hM_0 hM_1 (by decide)) hM_0) hU2.1 (by decide)) (hU2.n (gne_c hM_0 hM_1 (by decide)) hM_0)))
  refine g_aload_n hC dJ40_init_22 0 rfl gRef_r 23 rfl ?_
  refine g_aload_n hC dJ40_init_23 2 rfl gRef_q 24 rfl ?_
  refine g_put hC cI27 hU6.1 0 (Nat.le_of_ble_eq_true rfl) q2526 rfl gq_n gq_f (Nat.le_of_ble_eq_true rfl) dJ40_init_24 (fs' := [va_rf nx, .null, .int mc, .ref mp]) rfl 27 rfl (fun M8 hU9 => ?_)
  exact g_vret hC (fun k9 hk9 => ⟨hU9.1, ((((gFr.refl.up hU2 hM_1 (by simp)).up hU4 hU2.1 (by simp)).up hU6 hU4.1 (by simp)).up hU9 hU6.1 (by simp)), (by first | exact Nat.le_zero.mp hk9 | omega)⟩) dJ40_init_27 (Nat.le_of_ble_eq_true rfl) (Nat.le_of_ble_eq_true rfl)
set_option maxHeartbeats 4000000 in
theorem met_TMi_init (l : Launch) (G : gG) (M : gM) (mp : Nat) (t0 : Nat × Nat) (cm : Nat) (r : Option Nat) (n : Nat) (mc : Int32) (ks : Option Nat) (it : Nat) (nx : Option Nat)  (hM_0 : M mp = some (t0, .inr (24, [.null, .null, .ref cm, va_rf r, .int (nI n), .int mc, .null, va_rf ks, .null]))) (hM_1 : M it = some ((9, 1), .inr (27, [.null, .null, .int 0, .null]))) : Met l yJ41_init (ws_ yJ41_init cJ41_init 3 none) ({ frames := 2, cells := 0, slots := 0, locals := 34 }) (gPc G [.ref it, .ref mp, va_rf nx] M) (gQv G (fun M9 k9 => M9 it = some ((9, 1), .inr (27, [va_rf nx, .null, .int mc, .ref mp])) ∧ gFr (gL [it]) M M9 ∧ k9 = 0)) 0 0 (gA G) := by
  refine gMet [(0, .ref it), (1, .ref mp), (2, va_rf nx)] (by decide) (by cases nx <;> exact Nat.le_of_ble_eq_true rfl) (by cases nx <;> rfl) ?_
  intro p e s m below meth c hC
  refine g_aload_n hC dJ41_init_0 0 rfl gRef_r 1 rfl ?_
  refine g_aload_n hC dJ41_init_1 1 rfl gRef_r 2 rfl ?_
  refine g_aload_n hC dJ41_init_2 2 rfl gRef_q 3 rfl ?_
  refine g_callv (g_I (As := [.ref mp, va_rf nx]) (rest := []) hC miJ40_init q2522 (met_TMi_init0 l G M mp t0 cm r n mc ks it nx hM_0 hM_1) ⟨rfl, rfl⟩ ⟨(Nat.le_of_ble_eq_true rfl), (Nat.le_of_ble_eq_true rfl)⟩ rfl (Nat.le_of_ble_eq_true rfl) dJ41_init_3 rfl ⟨(Nat.le_of_ble_eq_true rfl), (Nat.le_of_ble_eq_true rfl)⟩) 0 (Nat.le_of_ble_eq_true rfl) 0 (Nat.le_of_ble_eq_true rfl) 6 rfl (fun M1 k2 hp3 => ?_)
  obtain ⟨hc5, hF6, hk7⟩ := hp3
  exact g_vret hC (fun k9 hk9 => ⟨(by rw [hc5]; all_goals (first | rfl | (simp only [if_true, if_false, true_and, and_true, false_and, and_false, true_or, or_true, false_or, or_false, not_true_eq_false, not_false_eq_true, reduceIte, decide_true, decide_false, Bool.false_eq_true]; done) | (simp only [if_true, if_false, true_and, and_true, false_and, and_false, true_or, or_true, false_or, or_false, not_true_eq_false, not_false_eq_true, reduceIte, decide_true, decide_false, Bool.false_eq_true]; rfl) | (simp only [if_true, if_false, true_and, and_true, false_and, and_false, true_or, or_true, false_or, or_false, not_true_eq_false, not_false_eq_true, reduceIte, decide_true, decide_false, Bool.false_eq_true]; done) | (simp only []; simp only [if_true, if_false, true_and, and_true, false_and, and_false, true_or, or_true, false_or, or_false, not_true_eq_false, not_false_eq_true, reduceIte, decide_true, decide_false, Bool.false_eq_true]; done) | (simp only []; simp only [if_true, if_false, true_and, and_true, false_and, and_false, true_or, or_true, false_or, or_false, not_true_eq_false, not_false_eq_true, reduceIte, decide_true, decide_false, Bool.false_eq_true]; done) | (simp only []; simp only [if_true, if_false, true_and, and_true, false_and, and_false, true_or, or_true, false_or, or_false, not_true_eq_false, not_false_eq_true, reduceIte, decide_true, decide_false, Bool.false_eq_true]; simp only []; done) | (simp only [if_true, if_false, true_and, and_true, false_and, and_false, true_or, or_true, false_or, or_false, not_true_eq_false, not_false_eq_true, reduceIte, decide_true, decide_false, Bool.false_eq_true]; rfl) | (simp only []; simp only [if_true, if_false, true_and, and_true, false_and, and_false, true_or, or_true, false_or, or_false, not_true_eq_false, not_false_eq_true, reduceIte, decide_true, decide_false, Bool.false_eq_true]; rfl) | (simp only []; rfl) | (simp only [if_true, if_false, true_and, and_true, false_and, and_false, true_or, or_true, false_or, or_false, not_true_eq_false, not_false_eq_true, reduceIte, decide_true, decide_false, Bool.false_eq_true]; rfl) | (simp_all []; done))), (gFr.refl.trans (hF6.mono (by intro b t hb; simp at hb ⊢; first | done | (rcases hb with rfl | rfl | rfl | rfl <;> simp) | (simp [hb]; done)))), (by first | exact Nat.le_zero.mp hk9 | omega)⟩) dJ41_init_6 (Nat.le_of_ble_eq_true rfl) (Nat.le_of_ble_eq_true rfl)
set_option maxHeartbeats 4000000 in
theorem met_TM_keyIter (l : Launch) (G : gG) (M : gM) (mp : Nat) (t0 : Nat × Nat) (cm : Nat) (r : Option Nat) (n : Nat) (mc : Int32) (ks : Option Nat) (t1 : Nat × Nat) (Ns : List Nat) (kb : Nat → Nat) (vl : Nat → Nat) (lf : Nat → Option Nat) (rt : Nat → Option Nat) (pa : Nat → Option Nat) (co : Nat → Bool) (ky : Nat → Int32) (lo : Nat → Option Nat) (hi : Nat → Option Nat) (hI : tmI r Ns (kyR ky) lf rt pa lo hi) (hS : tmS Ns ky) (hM_0 : M mp = some (t0, .inr (24, [.null, .null, .ref cm, va_rf r, .int (nI n), .int mc, .null, va_rf ks, .null]))) (hP_0 : tmE M t1 Ns kb vl lf rt pa co) : Met l yJ9_keyIterator (ws_ yJ9_keyIterator cJ9_keyIterator 1 (some (.object "java/util/Iterator"))) ({ frames := 3, cells := 1, slots := 4, locals := 56 }) (gPc G [.ref mp] M) (gQq G (fun r9 M9 k9 => ∃ it : Nat, r9 = (some it) ∧ M9 it = some ((9, 1), .inr (27, [va_rf (Ns.head?), .null, .int mc, .ref mp])) ∧ gFr (gL []) M M9 ∧ k9 ≤ 1)) 1 4 (gA G) := by
  refine gMet [(0, .ref mp)] (by decide) (Nat.le_of_ble_eq_true rfl) rfl ?_
  intro p e s m below meth c hC
  refine g_new hC cI27 q2513 q2514 q162 df27 (9, 1) (Nat.le_of_ble_eq_true rfl) (Nat.le_of_ble_eq_true rfl) 1 (Nat.le_of_ble_eq_true rfl) 4 (Nat.le_of_ble_eq_true rfl) dJ9_keyIterator_0 3 rfl (fun a1 M2 hN3 => ?_)
  refine g_dup hC dJ9_keyIterator_3 rfl 4 rfl ?_
  refine g_aload_n hC dJ9_keyIterator_4 0 rfl gRef_r 5 rfl ?_
  refine g_aload_n hC dJ9_keyIterator_5 0 rfl gRef_r 6 rfl ?_
  refine g_callqP (g_V (As := []) (rest := [.ref mp, .ref a1, .ref a1]) hC mvJ9_getFirstEntry q2515 (gOf.of hC.K cI24 (hN3.n hM_0)) (met_TM_first l G M2 mp t0 cm r n mc ks t1 Ns kb vl lf rt pa co ky lo hi hI hS (hN3.n hM_0) (tmE.fr hP_0 (gFr.refl.nw hN3))) ⟨rfl, rfl⟩ ⟨(Nat.le_of_ble_eq_true rfl), (Nat.le_of_ble_eq_true rfl)⟩ rfl (Nat.le_of_ble_eq_true rfl) dJ9_keyIterator_6 rfl ⟨(Nat.le_of_ble_eq_true rfl), (Nat.le_of_ble_eq_true rfl)⟩) 9 rfl 4 (Nat.le_of_ble_eq_true rfl) ?_
  refine g_callv (g_I (As := [.ref mp, va_rf (Ns.head?)]) (rest := [.ref a1]) hC miJ41_init q2519 (met_TMi_init l G M2 mp t0 cm r n mc ks a1 (Ns.head?) (hN3.n hM_0) hN3.2.1) ⟨rfl, rfl⟩ ⟨(Nat.le_of_ble_eq_true rfl), (Nat.le_of_ble_eq_true rfl)⟩ rfl (Nat.le_of_ble_eq_true rfl) dJ9_keyIterator_9 rfl ⟨(Nat.le_of_ble_eq_true rfl), (Nat.le_of_ble_eq_true rfl)⟩) 1 (Nat.le_of_ble_eq_true rfl) 4 (Nat.le_of_ble_eq_true rfl) 12 rfl (fun M4 k5 hp6 => ?_)
  obtain ⟨hc8, hF9, hk10⟩ := hp6
  exact g_aret (v := some a1) hC (by first | exact Or.inl ⟨_, rfl⟩ | exact Or.inr ⟨_, rfl⟩) (fun k9 hk9 => ⟨a1, rfl, (by rw [hc8]; all_goals (first | rfl | (simp only [if_true, if_false, true_and, and_true, false_and, and_false, true_or, or_true, false_or, or_false, not_true_eq_false, not_false_eq_true, reduceIte, decide_true, decide_false, Bool.false_eq_true]; done) | (simp only [if_true, if_false, true_and, and_true, false_and, and_false, true_or, or_true, false_or, or_false, not_true_eq_false, not_false_eq_true, reduceIte, decide_true, decide_false, Bool.false_eq_true]; rfl) | (simp only [if_true, if_false, true_and, and_true, false_and, and_false, true_or, or_true, false_or, or_false, not_true_eq_false, not_false_eq_true, reduceIte, decide_true, decide_false, Bool.false_eq_true]; done) | (simp only []; simp only [if_true, if_false, true_and, and_true, false_and, and_false, true_or, or_true, false_or, or_false, not_true_eq_false, not_false_eq_true, reduceIte, decide_true, decide_false, Bool.false_eq_true]; done) | (simp only []; simp only [if_true, if_false, true_and, and_true, false_and, and_false, true_or, or_true, false_or, or_false, not_true_eq_false, not_false_eq_true, reduceIte, decide_true, decide_false, Bool.false_eq_true]; done) | (simp only []; simp only [if_true, if_false, true_and, and_true, false_and, and_false, true_or, or_true, false_or, or_false, not_true_eq_false, not_false_eq_true, reduceIte, decide_true, decide_false, Bool.false_eq_true]; simp only []; done) | (simp only [if_true, if_false, true_and, and_true, false_and, and_false, true_or, or_true, false_or, or_false, not_true_eq_false, not_false_eq_true, reduceIte, decide_true, decide_false, Bool.false_eq_true]; rfl) | (simp only []; simp only [if_true, if_false, true_and, and_true, false_and, and_false, true_or, or_true, false_or, or_false, not_true_eq_false, not_false_eq_true, reduceIte, decide_true, decide_false, Bool.false_eq_true]; rfl) | (simp only []; rfl) | (simp only [if_true, if_false, true_and, and_true, false_and, and_false, true_or, or_true, false_or, or_false, not_true_eq_false, not_false_eq_true, reduceIte, decide_true, decide_false, Bool.false_eq_true]; rfl) | (simp_all []; done))), ((gFr.refl.nw hN3).trf hF9 (fun b t e hb hn => (gno (hN3.ne (gFr.refl b t e hb hn)) gno0))), (by first | exact Nat.le_zero.mp hk9 | omega)⟩) dJ9_keyIterator_12 (Nat.le_of_ble_eq_true rfl) (Nat.le_of_ble_eq_true rfl)
set_option maxHeartbeats 4000000 in
theorem met_TMi_hasNext0 (l : Launch) (G : gG) (M : gM) (mp : Nat) (t0 : Nat × Nat) (cm : Nat) (r : Option Nat) (n : Nat) (mc : Int32) (ks : Option Nat) (it : Nat) (nx : Option Nat) (lr : Option Nat)  (hM_0 : M it = some ((9, 1), .inr (27, [va_rf nx, va_rf lr, .int mc, .ref mp]))) : Met l yJ40_hasNext (ws_ yJ40_hasNext cJ40_hasNext 1 (some .boolean)) ({ frames := 0, cells := 0, slots := 0, locals := 0 }) (gPc G [.ref it] M) (gQi G (fun r9 M9 k9 => r9 = (bI nx.isSome) ∧ M9 = M ∧ k9 = 0)) 0 0 (gA G) := by
  refine gMet [(0, .ref it)] (by decide) (Nat.le_of_ble_eq_true rfl) rfl ?_
  intro p e s m below meth c hC
  refine g_aload_n hC dJ40_hasNext_0 0 rfl gRef_r 1 rfl ?_
  refine g_get (v := va_rf nx) hC cI27 hM_0 0 (Nat.le_of_ble_eq_true rfl) q2526 rfl dJ40_hasNext_1 4 rfl ?_
  refine g_ifnull hC dJ40_hasNext_4 11 rfl 7 rfl (fun e_2 => ?_) (fun x_1 e_2 => ?_)
  · subst e_2
    refine g_iconst hC dJ40_hasNext_11 ki_0 12 rfl ?_
    exact g_zret (v := 0) hC (by decide) (fun k9 hk9 => ⟨rfl, rfl, Nat.le_zero.mp hk9⟩) dJ40_hasNext_12 (Nat.le_of_ble_eq_true rfl) (Nat.le_of_ble_eq_true rfl)
  · subst e_2
    refine g_iconst hC dJ40_hasNext_7 ki_1 8 rfl ?_
    refine g_goto hC dJ40_hasNext_8 12 rfl ?_
    exact g_zret (v := 1) hC (by decide) (fun k9 hk9 => ⟨rfl, rfl, Nat.le_zero.mp hk9⟩) dJ40_hasNext_12 (Nat.le_of_ble_eq_true rfl) (Nat.le_of_ble_eq_true rfl)
set_option maxHeartbeats 4000000 in
theorem met_TMi_nextE (l : Launch) (G : gG) (M : gM) (mp : Nat) (t0 : Nat × Nat) (cm : Nat) (r : Option Nat) (n : Nat) (mc : Int32) (ks : Option Nat) (t1 : Nat × Nat) (Ns : List Nat) (kb : Nat → Nat) (vl : Nat → Nat) (lf : Nat → Option Nat) (rt : Nat → Option Nat) (pa : Nat → Option Nat) (co : Nat → Bool) (ky : Nat → Int32) (lo : Nat → Option Nat) (hi : Nat → Option Nat) (it : Nat) (a : Nat) (lr : Option Nat) (hI : tmI r Ns (kyR ky) lf rt pa lo hi) (hS : tmS Ns ky) (ham : a ∈ Ns) (hM_0 : M mp = some (t0, .inr (24, [.null, .null, .ref cm, va_rf r, .int (nI n), .int mc, .null, va_rf ks, .null]))) (hM_1 : M it = some ((9, 1), .inr (27, [.ref a, va_rf lr, .int mc, .ref mp]))) (hP_0 : tmE M t1 Ns kb vl lf rt pa co) : Met l yJ40_nextEntry (ws_ yJ40_nextEntry cJ40_nextEntry 2 (some (.object "java/util/TreeMap$Entry"))) ({ frames := 1, cells := 0, slots := 0, locals := 22 }) (gPc G [.ref it] M) (gQq G (fun r9 M9 k9 => r9 = (some a) ∧ M9 it = some ((9, 1), .inr (27, [va_rf (tmH Ns ky (ky a)), .ref a, .int mc, .ref mp])) ∧ gFr (gL [it]) M M9 ∧ k9 = 0)) 0 0 (gA G) := by
  refine gMet [(0, .ref it)] (by decide) (Nat.le_of_ble_eq_true rfl) rfl ?_
  intro p e s m below meth c hC
  refine g_aload_n hC dJ40_nextEntry_0 0 rfl gRef_r 1 rfl ?_
  refine g_get (v := .ref a) hC cI27 hM_1 0 (Nat.le_of_ble_eq_true rfl) q2526 rfl dJ40_nextEntry_1 4 rfl ?_
  refine g_astore_n hC dJ40_nextEntry_4 rfl gRef_r (Nat.le_of_ble_eq_true rfl) [(1, .ref a), (0, .ref it)] rfl 5 rfl ?_
  refine g_aload_n hC dJ40_nextEntry_5 0 rfl gRef_r 6 rfl ?_
  refine g_ifnonnull (r := some a) hC dJ40_nextEntry_6 17 rfl 9 rfl (fun _ _ => ?_) (fun q => by cases q)
  refine g_aload_n hC dJ40_nextEntry_17 1 rfl gRef_r 18 rfl ?_
  refine g_get (v := .ref mp) hC cI27 hM_1 3 (Nat.le_of_ble_eq_true rfl) q2529 rfl dJ40_nextEntry_18 21 rfl ?_
  refine g_getN (v := .int mc) hC cI24 hM_0 5 (Nat.le_of_ble_eq_true rfl) q345 rfl dJ40_nextEntry_21 24 rfl ?_
  refine g_aload_n hC dJ40_nextEntry_24 1 rfl gRef_r 25 rfl ?_
  refine g_get (v := .int mc) hC cI27 hM_1 2 (Nat.le_of_ble_eq_true rfl) q2528 rfl dJ40_nextEntry_25 28 rfl ?_
  refine g_icmp_eq hC dJ40_nextEntry_28 39 rfl 31 rfl (fun c_2 => ?_) (fun c_2 => ?_)
  · refine g_aload_n hC dJ40_nextEntry_39 1 rfl gRef_r 40 rfl ?_
    refine g_aload_n hC dJ40_nextEntry_40 0 rfl gRef_r 41 rfl ?_
    refine g_callqP (g_S (As := [.ref a]) (rest := [.ref it]) hC msJ9_successor q1744 (met_TM_succ l G M t1 Ns kb vl lf rt pa co r ky lo hi a hI hS ham hP_0) ⟨rfl, rfl⟩ ⟨(Nat.le_of_ble_eq_true rfl), (Nat.le_of_ble_eq_true rfl)⟩ rfl (Nat.le_of_ble_eq_true rfl) dJ40_nextEntry_41 rfl ⟨(Nat.le_of_ble_eq_true rfl), (Nat.le_of_ble_eq_true rfl)⟩) 44 rfl 0 (Nat.le_of_ble_eq_true rfl) ?_
    refine g_put hC cI27 hM_1 0 (Nat.le_of_ble_eq_true rfl) q2526 rfl gq_n gq_f (Nat.le_of_ble_eq_true rfl) dJ40_nextEntry_44 (fs' := [va_rf (tmH Ns ky (ky a)), va_rf lr, .int mc, .ref mp]) rfl 47 rfl (fun M3 hU4 => ?_)
    refine g_aload_n hC dJ40_nextEntry_47 1 rfl gRef_r 48 rfl ?_
    refine g_aload_n hC dJ40_nextEntry_48 0 rfl gRef_r 49 rfl ?_
    refine g_put hC cI27 hU4.1 1 (Nat.le_of_ble_eq_true rfl) q2527 rfl rfl rfl (Nat.le_of_ble_eq_true rfl) dJ40_nextEntry_49 (fs' := [va_rf (tmH Ns ky (ky a)), .ref a, .int mc, .ref mp]) rfl 52 rfl (fun M5 hU6 => ?_)
    refine g_aload_n hC dJ40_nextEntry_52 0 rfl gRef_r 53 rfl ?_
    exact g_aret (v := some a) hC (by first | exact Or.inl ⟨_, rfl⟩ | exact Or.inr ⟨_, rfl⟩) (fun k9 hk9 => ⟨rfl, hU6.1, ((gFr.refl.up hU4 hM_1 (by simp)).up hU6 hU4.1 (by simp)), (by first | exact Nat.le_zero.mp hk9 | omega)⟩) dJ40_nextEntry_53 (Nat.le_of_ble_eq_true rfl) (Nat.le_of_ble_eq_true rfl)
  · exact absurd rfl c_2
set_option maxHeartbeats 4000000 in
theorem met_TMi_next0 (l : Launch) (G : gG) (M : gM) (mp : Nat) (t0 : Nat × Nat) (cm : Nat) (r : Option Nat) (n : Nat) (mc : Int32) (ks : Option Nat) (t1 : Nat × Nat) (Ns : List Nat) (kb : Nat → Nat) (vl : Nat → Nat) (lf : Nat → Option Nat) (rt : Nat → Option Nat) (pa : Nat → Option Nat) (co : Nat → Bool) (ky : Nat → Int32) (lo : Nat → Option Nat) (hi : Nat → Option Nat) (it : Nat) (a : Nat) (lr : Option Nat) (hI : tmI r Ns (kyR ky) lf rt pa lo hi) (hS : tmS Ns ky) (ham : a ∈ Ns) (ht9 : ¬ (t1.1 = 9 ∧ t1.2 = 1)) (hM_0 : M mp = some (t0, .inr (24, [.null, .null, .ref cm, va_rf r, .int (nI n), .int mc, .null, va_rf ks, .null]))) (hM_1 : M it = some ((9, 1), .inr (27, [.ref a, va_rf lr, .int mc, .ref mp]))) (hP_0 : tmE M t1 Ns kb vl lf rt pa co) : Met l yJ41_next (ws_ yJ41_next cJ41_next 1 (some (.object "java/lang/Object"))) ({ frames := 2, cells := 0, slots := 0, locals := 43 }) (gPc G [.ref it] M) (gQq G (fun r9 M9 k9 => r9 = (some (kb a)) ∧ M9 it = some ((9, 1), .inr (27, [va_rf (tmH Ns ky (ky a)), .ref a, .int mc, .ref mp])) ∧ gFr (gL [it]) M M9 ∧ k9 = 0)) 0 0 (gA G) := by
  refine gMet [(0, .ref it)] (by decide) (Nat.le_of_ble_eq_true rfl) rfl ?_
  intro p e s m below meth c hC
  refine g_aload_n hC dJ41_next_0 0 rfl gRef_r 1 rfl ?_
  refine g_callq (g_U (n := 0) (As := []) (rest := []) hC ⟨q1739, q1741, q1742, q161, q1743, (Or.inl rfl), by decide +kernel⟩ q1738 (gOf.of hC.K cI27 hM_1) (met_TMi_nextE l G M mp t0 cm r n mc ks t1 Ns kb vl lf rt pa co ky lo hi it a lr hI hS ham hM_0 hM_1 hP_0) ⟨rfl, rfl⟩ ⟨(Nat.le_of_ble_eq_true rfl), (Nat.le_of_ble_eq_true rfl)⟩ rfl (Nat.le_of_ble_eq_true rfl) dJ41_next_1 rfl ⟨(Nat.le_of_ble_eq_true rfl), (Nat.le_of_ble_eq_true rfl)⟩) 0 (Nat.le_of_ble_eq_true rfl) 0 (Nat.le_of_ble_eq_true rfl) 4 rfl (fun r4 M1 k2 hp3 => ?_)
  obtain ⟨rfl, hc5, hF6, hk7⟩ := hp3
  refine g_get (v := .ref (kb a)) hC cI25 ((tmE.fr hP_0 (gFr.refl.trf hF6 (fun b t e hb hn => (gno (gne_t (gFr.refl b t e hb hn) hM_1 (fun q => hn (by rw [q]; exact (show (fun t => ¬ (tgE t1.1 t1.2) t) (9, 1) by (try simp only [ndT, tgE, gT, tgR, ndT9, tg0, Prod.mk.injEq]); first | done | omega | (simp; done))))) gno0)))) a ham) 0 (Nat.le_of_ble_eq_true rfl) q1023 rfl dJ41_next_4 7 rfl ?_
  exact g_aret (v := some (kb a)) hC (by first | exact Or.inl ⟨_, rfl⟩ | exact Or.inr ⟨_, rfl⟩) (fun k9 hk9 => ⟨rfl, (by rw [hc5]; all_goals (first | rfl | (simp only [if_true, if_false, true_and, and_true, false_and, and_false, true_or, or_true, false_or, or_false, not_true_eq_false, not_false_eq_true, reduceIte, decide_true, decide_false, Bool.false_eq_true]; done) | (simp only [if_true, if_false, true_and, and_true, false_and, and_false, true_or, or_true, false_or, or_false, not_true_eq_false, not_false_eq_true, reduceIte, decide_true, decide_false, Bool.false_eq_true]; rfl) | (simp only [if_true, if_false, true_and, and_true, false_and, and_false, true_or, or_true, false_or, or_false, not_true_eq_false, not_false_eq_true, reduceIte, decide_true, decide_false, Bool.false_eq_true]; done) | (simp only []; simp only [if_true, if_false, true_and, and_true, false_and, and_false, true_or, or_true, false_or, or_false, not_true_eq_false, not_false_eq_true, reduceIte, decide_true, decide_false, Bool.false_eq_true]; done) | (simp only []; simp only [if_true, if_false, true_and, and_true, false_and, and_false, true_or, or_true, false_or, or_false, not_true_eq_false, not_false_eq_true, reduceIte, decide_true, decide_false, Bool.false_eq_true]; done) | (simp only []; simp only [if_true, if_false, true_and, and_true, false_and, and_false, true_or, or_true, false_or, or_false, not_true_eq_false, not_false_eq_true, reduceIte, decide_true, decide_false, Bool.false_eq_true]; simp only []; done) | (simp only [if_true, if_false, true_and, and_true, false_and, and_false, true_or, or_true, false_or, or_false, not_true_eq_false, not_false_eq_true, reduceIte, decide_true, decide_false, Bool.false_eq_true]; rfl) | (simp only []; simp only [if_true, if_false, true_and, and_true, false_and, and_false, true_or, or_true, false_or, or_false, not_true_eq_false, not_false_eq_true, reduceIte, decide_true, decide_false, Bool.false_eq_true]; rfl) | (simp only []; rfl) | (simp only [if_true, if_false, true_and, and_true, false_and, and_false, true_or, or_true, false_or, or_false, not_true_eq_false, not_false_eq_true, reduceIte, decide_true, decide_false, Bool.false_eq_true]; rfl) | (simp_all []; done))), (gFr.refl.trans (hF6.mono (by intro b t hb; simp at hb ⊢; first | done | (rcases hb with rfl | rfl | rfl | rfl <;> simp) | (simp [hb]; done)))), (by first | exact Nat.le_zero.mp hk9 | omega)⟩) dJ41_next_7 (Nat.le_of_ble_eq_true rfl) (Nat.le_of_ble_eq_true rfl)
set_option maxHeartbeats 4000000 in
theorem met_TMk_init (l : Launch) (G : gG) (M : gM) (h : Nat) (t : Nat × Nat) (mp : Nat)  (hM_0 : M h = some (t, .inr (26, [.null]))) : Met l yJ39_init (ws_ yJ39_init cJ39_init 2 none) ({ frames := 3, cells := 0, slots := 0, locals := 52 }) (gPc G [.ref h, .ref mp] M) (gQv G (fun M9 k9 => M9 h = some (t, .inr (26, [.ref mp])) ∧ gFr (gL [h]) M M9 ∧ k9 = 0)) 0 0 (gA G) := by
  refine gMet [(0, .ref h), (1, .ref mp)] (by decide) (Nat.le_of_ble_eq_true rfl) rfl ?_
  intro p e s m below meth c hC
  refine g_aload_n hC dJ39_init_0 0 rfl gRef_r 1 rfl ?_
  refine g_callvP (g_I (As := []) (rest := []) hC miJ38_init q2490 (met_J38_init l G M h) ⟨rfl, rfl⟩ ⟨(Nat.le_of_ble_eq_true rfl), (Nat.le_of_ble_eq_true rfl)⟩ rfl (Nat.le_of_ble_eq_true rfl) dJ39_init_1 rfl ⟨(Nat.le_of_ble_eq_true rfl), (Nat.le_of_ble_eq_true rfl)⟩) 4 rfl 0 (Nat.le_of_ble_eq_true rfl) ?_
  refine g_aload_n hC dJ39_init_4 0 rfl gRef_r 5 rfl ?_
  refine g_aload_n hC dJ39_init_5 1 rfl gRef_r 6 rfl ?_
  refine g_putF hC cI26 hM_0 0 (Nat.le_of_ble_eq_true rfl) q2494 rfl rfl rfl rfl (Nat.le_of_ble_eq_true rfl) dJ39_init_6 (fs' := [.ref mp]) rfl 9 rfl (fun M1 hU2 => ?_)
  exact g_vret hC (fun k9 hk9 => ⟨hU2.1, (gFr.refl.up hU2 hM_0 (by simp)), (by first | exact Nat.le_zero.mp hk9 | omega)⟩) dJ39_init_9 (Nat.le_of_ble_eq_true rfl) (Nat.le_of_ble_eq_true rfl)
set_option maxHeartbeats 4000000 in
theorem met_TM_nks_s (l : Launch) (G : gG) (M : gM) (mp : Nat) (t0 : Nat × Nat) (cm : Nat) (r : Option Nat) (n : Nat) (mc : Int32) (ka : Nat)  (hM_0 : M mp = some (t0, .inr (24, [.null, .null, .ref cm, va_rf r, .int (nI n), .int mc, .null, .ref ka, .null]))) : Met l yJ9_navigableKeySet (ws_ yJ9_navigableKeySet cJ9_navigableKeySet 2 (some (.object "java/util/NavigableSet"))) ({ frames := 0, cells := 0, slots := 0, locals := 0 }) (gPc G [.ref mp] M) (gQq G (fun r9 M9 k9 => r9 = (some ka) ∧ M9 = M ∧ k9 = 0)) 0 0 (gA G) := by
  refine gMet [(0, .ref mp)] (by decide) (Nat.le_of_ble_eq_true rfl) rfl ?_
  intro p e s m below meth c hC
  refine g_aload_n hC dJ9_navigableKeySet_0 0 rfl gRef_r 1 rfl ?_
  refine g_get (v := .ref ka) hC cI24 hM_0 7 (Nat.le_of_ble_eq_true rfl) q347 rfl dJ9_navigableKeySet_1 4 rfl ?_
  refine g_astore_n hC dJ9_navigableKeySet_4 rfl gRef_r (Nat.le_of_ble_eq_true rfl) [(1, .ref ka), (0, .ref mp)] rfl 5 rfl ?_
  refine g_aload_n hC dJ9_navigableKeySet_5 0 rfl gRef_r 6 rfl ?_
  refine g_ifnull (r := some ka) hC dJ9_navigableKeySet_6 13 rfl 9 rfl (fun q => by cases q) (fun _ _ => ?_)
  refine g_aload_n hC dJ9_navigableKeySet_9 0 rfl gRef_r 10 rfl ?_
  refine g_goto hC dJ9_navigableKeySet_10 26 rfl ?_
  exact g_aret (v := some ka) hC (by first | exact Or.inl ⟨_, rfl⟩ | exact Or.inr ⟨_, rfl⟩) (fun k9 hk9 => ⟨rfl, rfl, Nat.le_zero.mp hk9⟩) dJ9_navigableKeySet_26 (Nat.le_of_ble_eq_true rfl) (Nat.le_of_ble_eq_true rfl)
set_option maxHeartbeats 4000000 in
theorem met_TM_nks_n (l : Launch) (G : gG) (M : gM) (mp : Nat) (t0 : Nat × Nat) (cm : Nat) (r : Option Nat) (n : Nat) (mc : Int32)  (hM_0 : M mp = some (t0, .inr (24, [.null, .null, .ref cm, va_rf r, .int (nI n), .int mc, .null, .null, .null]))) : Met l yJ9_navigableKeySet (ws_ yJ9_navigableKeySet cJ9_navigableKeySet 2 (some (.object "java/util/NavigableSet"))) ({ frames := 4, cells := 1, slots := 1, locals := 73 }) (gPc G [.ref mp] M) (gQq G (fun r9 M9 k9 => ∃ kq : Nat, r9 = (some kq) ∧ M9 mp = some (t0, .inr (24, [.null, .null, .ref cm, va_rf r, .int (nI n), .int mc, .null, .ref kq, .null])) ∧ M9 kq = some ((0, 6), .inr (26, [.ref mp])) ∧ gFr (gL [mp]) M M9 ∧ k9 ≤ 1)) 1 1 (gA G) := by
  refine gMet [(0, .ref mp)] (by decide) (Nat.le_of_ble_eq_true rfl) rfl ?_
  intro p e s m below meth c hC
  refine g_aload_n hC dJ9_navigableKeySet_0 0 rfl gRef_r 1 rfl ?_
  refine g_get (v := .null) hC cI24 hM_0 7 (Nat.le_of_ble_eq_true rfl) q347 rfl dJ9_navigableKeySet_1 4 rfl ?_
  refine g_astore_n hC dJ9_navigableKeySet_4 rfl gRef_n (Nat.le_of_ble_eq_true rfl) [(1, .null), (0, .ref mp)] rfl 5 rfl ?_
  refine g_aload_n hC dJ9_navigableKeySet_5 0 rfl gRef_n 6 rfl ?_
  refine g_ifnull (r := none) hC dJ9_navigableKeySet_6 13 rfl 9 rfl (fun _ => ?_) (fun _ q => by cases q)
  refine g_aload_n hC dJ9_navigableKeySet_13 1 rfl gRef_r 14 rfl ?_
  refine g_new hC cI26 q2485 q2486 q160 df26 (0, 6) (Nat.le_of_ble_eq_true rfl) (Nat.le_of_ble_eq_true rfl) 1 (Nat.le_of_ble_eq_true rfl) 1 (Nat.le_of_ble_eq_true rfl) dJ9_navigableKeySet_14 17 rfl (fun a2 M3 hN4 => ?_)
  refine g_dup hC dJ9_navigableKeySet_17 rfl 18 rfl ?_
  refine g_aload_n hC dJ9_navigableKeySet_18 1 rfl gRef_r 19 rfl ?_
  refine g_callv (g_I (As := [.ref mp]) (rest := [.ref a2, .ref mp]) hC miJ39_init q2487 (met_TMk_init l G M3 a2 (0, 6) mp hN4.2.1) ⟨rfl, rfl⟩ ⟨(Nat.le_of_ble_eq_true rfl), (Nat.le_of_ble_eq_true rfl)⟩ rfl (Nat.le_of_ble_eq_true rfl) dJ9_navigableKeySet_19 rfl ⟨(Nat.le_of_ble_eq_true rfl), (Nat.le_of_ble_eq_true rfl)⟩) 1 (Nat.le_of_ble_eq_true rfl) 1 (Nat.le_of_ble_eq_true rfl) 22 rfl (fun M5 k6 hp7 => ?_)
  obtain ⟨hc9, hF10, hk11⟩ := hp7
  refine g_dup_x1 hC dJ9_navigableKeySet_22 rfl rfl 23 rfl ?_
  refine g_put hC cI24 (hF10 _ _ _ (hN4.n hM_0) (gno (hN4.ne hM_0) gno0)) 7 (Nat.le_of_ble_eq_true rfl) q347 rfl rfl rfl (Nat.le_of_ble_eq_true rfl) dJ9_navigableKeySet_23 (fs' := [.null, .null, .ref cm, va_rf r, .int (nI n), .int mc, .null, .ref a2, .null]) rfl 26 rfl (fun M12 hU13 => ?_)
  have hH14 := (hU13.n (Ne.symm (hN4.ne hM_0)) hc9)
  exact g_aret (v := some a2) hC (by first | exact Or.inl ⟨_, rfl⟩ | exact Or.inr ⟨_, rfl⟩) (fun k9 hk9 => ⟨a2, rfl, hU13.1, (by rw [hH14]; all_goals (first | rfl | (simp only [if_true, if_false, true_and, and_true, false_and, and_false, true_or, or_true, false_or, or_false, not_true_eq_false, not_false_eq_true, reduceIte, decide_true, decide_false, Bool.false_eq_true]; done) | (simp only [if_true, if_false, true_and, and_true, false_and, and_false, true_or, or_true, false_or, or_false, not_true_eq_false, not_false_eq_true, reduceIte, decide_true, decide_false, Bool.false_eq_true]; rfl) | (simp only [if_true, if_false, true_and, and_true, false_and, and_false, true_or, or_true, false_or, or_false, not_true_eq_false, not_false_eq_true, reduceIte, decide_true, decide_false, Bool.false_eq_true]; done) | (simp only []; simp only [if_true, if_false, true_and, and_true, false_and, and_false, true_or, or_true, false_or, or_false, not_true_eq_false, not_false_eq_true, reduceIte, decide_true, decide_false, Bool.false_eq_true]; done) | (simp only []; simp only [if_true, if_false, true_and, and_true, false_and, and_false, true_or, or_true, false_or, or_false, not_true_eq_false, not_false_eq_true, reduceIte, decide_true, decide_false, Bool.false_eq_true]; done) | (simp only []; simp only [if_true, if_false, true_and, and_true, false_and, and_false, true_or, or_true, false_or, or_false, not_true_eq_false, not_false_eq_true, reduceIte, decide_true, decide_false, Bool.false_eq_true]; simp only []; done) | (simp only [if_true, if_false, true_and, and_true, false_and, and_false, true_or, or_true, false_or, or_false, not_true_eq_false, not_false_eq_true, reduceIte, decide_true, decide_false, Bool.false_eq_true]; rfl) | (simp only []; simp only [if_true, if_false, true_and, and_true, false_and, and_false, true_or, or_true, false_or, or_false, not_true_eq_false, not_false_eq_true, reduceIte, decide_true, decide_false, Bool.false_eq_true]; rfl) | (simp only []; rfl) | (simp only [if_true, if_false, true_and, and_true, false_and, and_false, true_or, or_true, false_or, or_false, not_true_eq_false, not_false_eq_true, reduceIte, decide_true, decide_false, Bool.false_eq_true]; rfl) | (simp_all []; done))), (((gFr.refl.nw hN4).trf hF10 (fun b t e hb hn => (gno (hN4.ne (gFr.refl b t e hb hn)) gno0))).up hU13 (hF10 _ _ _ (hN4.n hM_0) (gno (hN4.ne hM_0) gno0)) (by simp)), (by first | exact Nat.le_zero.mp hk9 | omega)⟩) dJ9_navigableKeySet_26 (Nat.le_of_ble_eq_true rfl) (Nat.le_of_ble_eq_true rfl)
set_option maxHeartbeats 4000000 in
theorem met_TM_keySet_s (l : Launch) (G : gG) (M : gM) (mp : Nat) (t0 : Nat × Nat) (cm : Nat) (r : Option Nat) (n : Nat) (mc : Int32) (ka : Nat)  (hM_0 : M mp = some (t0, .inr (24, [.null, .null, .ref cm, va_rf r, .int (nI n), .int mc, .null, .ref ka, .null]))) : Met l yJ9_keySet (ws_ yJ9_keySet cJ9_keySet 1 (some (.object "java/util/Set"))) ({ frames := 5, cells := 1, slots := 1, locals := 120 }) (gPc G [.ref mp] M) (gQq G (fun r9 M9 k9 => r9 = (some ka) ∧ M9 = M ∧ k9 = 0)) 1 1 (gA G) := by
  refine gMet [(0, .ref mp)] (by decide) (Nat.le_of_ble_eq_true rfl) rfl ?_
  intro p e s m below meth c hC
  refine g_aload_n hC dJ9_keySet_0 0 rfl gRef_r 1 rfl ?_
  refine g_callqP (g_V (As := []) (rest := []) hC mvJ9_navigableKeySet q2481 (gOf.of hC.K cI24 hM_0) (met_TM_nks_s l G M mp t0 cm r n mc ka hM_0) ⟨rfl, rfl⟩ ⟨(Nat.le_of_ble_eq_true rfl), (Nat.le_of_ble_eq_true rfl)⟩ rfl (Nat.le_of_ble_eq_true rfl) dJ9_keySet_1 rfl ⟨(Nat.le_of_ble_eq_true rfl), (Nat.le_of_ble_eq_true rfl)⟩) 4 rfl 0 (Nat.le_of_ble_eq_true rfl) ?_
  exact g_aret (v := some ka) hC (by first | exact Or.inl ⟨_, rfl⟩ | exact Or.inr ⟨_, rfl⟩) (fun k9 hk9 => ⟨rfl, rfl, Nat.le_zero.mp hk9⟩) dJ9_keySet_4 (Nat.le_of_ble_eq_true rfl) (Nat.le_of_ble_eq_true rfl)
set_option maxHeartbeats 4000000 in
theorem met_TM_keySet_n (l : Launch) (G : gG) (M : gM) (mp : Nat) (t0 : Nat × Nat) (cm : Nat) (r : Option Nat) (n : Nat) (mc : Int32)  (hM_0 : M mp = some (t0, .inr (24, [.null, .null, .ref cm, va_rf r, .int (nI n), .int mc, .null, .null, .null]))) : Met l yJ9_keySet (ws_ yJ9_keySet cJ9_keySet 1 (some (.object "java/util/Set"))) ({ frames := 5, cells := 1, slots := 1, locals := 120 }) (gPc G [.ref mp] M) (gQq G (fun r9 M9 k9 => ∃ kq : Nat, r9 = (some kq) ∧ M9 mp = some (t0, .inr (24, [.null, .null, .ref cm, va_rf r, .int (nI n), .int mc, .null, .ref kq, .null])) ∧ M9 kq = some ((0, 6), .inr (26, [.ref mp])) ∧ gFr (gL [mp]) M M9 ∧ k9 ≤ 1)) 1 1 (gA G) := by
  refine gMet [(0, .ref mp)] (by decide) (Nat.le_of_ble_eq_true rfl) rfl ?_
  intro p e s m below meth c hC
  refine g_aload_n hC dJ9_keySet_0 0 rfl gRef_r 1 rfl ?_
  refine g_callq (g_V (As := []) (rest := []) hC mvJ9_navigableKeySet q2481 (gOf.of hC.K cI24 hM_0) (met_TM_nks_n l G M mp t0 cm r n mc hM_0) ⟨rfl, rfl⟩ ⟨(Nat.le_of_ble_eq_true rfl), (Nat.le_of_ble_eq_true rfl)⟩ rfl (Nat.le_of_ble_eq_true rfl) dJ9_keySet_1 rfl ⟨(Nat.le_of_ble_eq_true rfl), (Nat.le_of_ble_eq_true rfl)⟩) 1 (Nat.le_of_ble_eq_true rfl) 1 (Nat.le_of_ble_eq_true rfl) 4 rfl (fun r4 M1 k2 hp3 => ?_)
  obtain ⟨kq_5, rfl, hc6, hc7, hF8, hk9⟩ := hp3
  exact g_aret (v := some kq_5) hC (by first | exact Or.inl ⟨_, rfl⟩ | exact Or.inr ⟨_, rfl⟩) (fun k9 hk9 => ⟨kq_5, rfl, hc6, (by rw [hc7]; all_goals (first | rfl | (simp only [if_true, if_false, true_and, and_true, false_and, and_false, true_or, or_true, false_or, or_false, not_true_eq_false, not_false_eq_true, reduceIte, decide_true, decide_false, Bool.false_eq_true]; done) | (simp only [if_true, if_false, true_and, and_true, false_and, and_false, true_or, or_true, false_or, or_false, not_true_eq_false, not_false_eq_true, reduceIte, decide_true, decide_false, Bool.false_eq_true]; rfl) | (simp only [if_true, if_false, true_and, and_true, false_and, and_false, true_or, or_true, false_or, or_false, not_true_eq_false, not_false_eq_true, reduceIte, decide_true, decide_false, Bool.false_eq_true]; done) | (simp only []; simp only [if_true, if_false, true_and, and_true, false_and, and_false, true_or, or_true, false_or, or_false, not_true_eq_false, not_false_eq_true, reduceIte, decide_true, decide_false, Bool.false_eq_true]; done) | (simp only []; simp only [if_true, if_false, true_and, and_true, false_and, and_false, true_or, or_true, false_or, or_false, not_true_eq_false, not_false_eq_true, reduceIte, decide_true, decide_false, Bool.false_eq_true]; done) | (simp only []; simp only [if_true, if_false, true_and, and_true, false_and, and_false, true_or, or_true, false_or, or_false, not_true_eq_false, not_false_eq_true, reduceIte, decide_true, decide_false, Bool.false_eq_true]; simp only []; done) | (simp only [if_true, if_false, true_and, and_true, false_and, and_false, true_or, or_true, false_or, or_false, not_true_eq_false, not_false_eq_true, reduceIte, decide_true, decide_false, Bool.false_eq_true]; rfl) | (simp only []; simp only [if_true, if_false, true_and, and_true, false_and, and_false, true_or, or_true, false_or, or_false, not_true_eq_false, not_false_eq_true, reduceIte, decide_true, decide_false, Bool.false_eq_true]; rfl) | (simp only []; rfl) | (simp only [if_true, if_false, true_and, and_true, false_and, and_false, true_or, or_true, false_or, or_false, not_true_eq_false, not_false_eq_true, reduceIte, decide_true, decide_false, Bool.false_eq_true]; rfl) | (simp_all []; done))), (gFr.refl.trans (hF8.mono (by intro b t hb; simp at hb ⊢; first | done | (rcases hb with rfl | rfl | rfl | rfl <;> simp) | (simp [hb]; done)))), (by first | exact Nat.le_zero.mp hk9 | omega)⟩) dJ9_keySet_4 (Nat.le_of_ble_eq_true rfl) (Nat.le_of_ble_eq_true rfl)
set_option maxHeartbeats 4000000 in
theorem met_TMk_iter (l : Launch) (G : gG) (M : gM) (mp : Nat) (t0 : Nat × Nat) (cm : Nat) (r : Option Nat) (n : Nat) (mc : Int32) (ks : Option Nat) (t1 : Nat × Nat) (Ns : List Nat) (kb : Nat → Nat) (vl : Nat → Nat) (lf : Nat → Option Nat) (rt : Nat → Option Nat) (pa : Nat → Option Nat) (co : Nat → Bool) (ky : Nat → Int32) (lo : Nat → Option Nat) (hi : Nat → Option Nat) (ka : Nat) (hI : tmI r Ns (kyR ky) lf rt pa lo hi) (hS : tmS Ns ky) (hM_0 : M mp = some (t0, .inr (24, [.null, .null, .ref cm, va_rf r, .int (nI n), .int mc, .null, va_rf ks, .null]))) (hM_1 : M ka = some ((0, 6), .inr (26, [.ref mp]))) (hP_0 : tmE M t1 Ns kb vl lf rt pa co) : Met l yJ39_iterator (ws_ yJ39_iterator cJ39_iterator 1 (some (.object "java/util/Iterator"))) ({ frames := 4, cells := 1, slots := 4, locals := 76 }) (gPc G [.ref ka] M) (gQq G (fun r9 M9 k9 => ∃ it : Nat, r9 = (some it) ∧ M9 it = some ((9, 1), .inr (27, [va_rf (Ns.head?), .null, .int mc, .ref mp])) ∧ gFr (gL []) M M9 ∧ k9 ≤ 1)) 1 4 (gA G) := by
  refine gMet [(0, .ref ka)] (by decide) (Nat.le_of_ble_eq_true rfl) rfl ?_
  intro p e s m below meth c hC
  refine g_aload_n hC dJ39_iterator_0 0 rfl gRef_r 1 rfl ?_
  refine g_get (v := .ref mp) hC cI26 hM_1 0 (Nat.le_of_ble_eq_true rfl) q2494 rfl dJ39_iterator_1 4 rfl ?_
  refine g_instS hC (hC.at cI24) (gOf.of hC.K cI24 hM_0) q2508 dJ39_iterator_4 7 rfl ?_
  refine g_if_eq hC dJ39_iterator_7 21 rfl 10 rfl (fun c_1 => ?_) (fun c_1 => ?_)
  · exact absurd c_1 (by decide)
  · refine g_aload_n hC dJ39_iterator_10 0 rfl gRef_r 11 rfl ?_
    refine g_get (v := .ref mp) hC cI26 hM_1 0 (Nat.le_of_ble_eq_true rfl) q2494 rfl dJ39_iterator_11 14 rfl ?_
    refine g_castS hC (hC.at cI24) (gOf.of hC.K cI24 hM_0) q2508 dJ39_iterator_14 17 rfl ?_
    refine g_callq (g_V (As := []) (rest := []) hC mvJ9_keyIterator q2509 (gOf.of hC.K cI24 hM_0) (met_TM_keyIter l G M mp t0 cm r n mc ks t1 Ns kb vl lf rt pa co ky lo hi hI hS hM_0 hP_0) ⟨rfl, rfl⟩ ⟨(Nat.le_of_ble_eq_true rfl), (Nat.le_of_ble_eq_true rfl)⟩ rfl (Nat.le_of_ble_eq_true rfl) dJ39_iterator_17 rfl ⟨(Nat.le_of_ble_eq_true rfl), (Nat.le_of_ble_eq_true rfl)⟩) 1 (Nat.le_of_ble_eq_true rfl) 4 (Nat.le_of_ble_eq_true rfl) 20 rfl (fun r5 M2 k3 hp4 => ?_)
    obtain ⟨it_6, rfl, hc7, hF8, hk9⟩ := hp4
    exact g_aret (v := some it_6) hC (by first | exact Or.inl ⟨_, rfl⟩ | exact Or.inr ⟨_, rfl⟩) (fun k9 hk9 => ⟨it_6, rfl, (by rw [hc7]; all_goals (first | rfl | (simp only [eq_false c_1, if_true, if_false, true_and, and_true, false_and, and_false, true_or, or_true, false_or, or_false, not_true_eq_false, not_false_eq_true, reduceIte, decide_true, decide_false, Bool.false_eq_true]; done) | (simp only [eq_false c_1, if_true, if_false, true_and, and_true, false_and, and_false, true_or, or_true, false_or, or_false, not_true_eq_false, not_false_eq_true, reduceIte, decide_true, decide_false, Bool.false_eq_true]; rfl) | (simp only [c_1, if_true, if_false, true_and, and_true, false_and, and_false, true_or, or_true, false_or, or_false, not_true_eq_false, not_false_eq_true, reduceIte, decide_true, decide_false, Bool.false_eq_true]; done) | (simp only []; simp only [if_true, if_false, true_and, and_true, false_and, and_false, true_or, or_true, false_or, or_false, not_true_eq_false, not_false_eq_true, reduceIte, decide_true, decide_false, Bool.false_eq_true, eq_false c_1]; done) | (simp only []; simp only [if_true, if_false, true_and, and_true, false_and, and_false, true_or, or_true, false_or, or_false, not_true_eq_false, not_false_eq_true, reduceIte, decide_true, decide_false, Bool.false_eq_true, c_1]; done) | (simp only []; simp only [if_true, if_false, true_and, and_true, false_and, and_false, true_or, or_true, false_or, or_false, not_true_eq_false, not_false_eq_true, reduceIte, decide_true, decide_false, Bool.false_eq_true, c_1]; simp only []; done) | (simp only [c_1, if_true, if_false, true_and, and_true, false_and, and_false, true_or, or_true, false_or, or_false, not_true_eq_false, not_false_eq_true, reduceIte, decide_true, decide_false, Bool.false_eq_true]; rfl) | (simp only []; simp only [if_true, if_false, true_and, and_true, false_and, and_false, true_or, or_true, false_or, or_false, not_true_eq_false, not_false_eq_true, reduceIte, decide_true, decide_false, Bool.false_eq_true, c_1]; rfl) | (simp only []; rfl) | (simp only [c_1, if_true, if_false, true_and, and_true, false_and, and_false, true_or, or_true, false_or, or_false, not_true_eq_false, not_false_eq_true, reduceIte, decide_true, decide_false, Bool.false_eq_true]; rfl) | (simp_all []; done))), (gFr.refl.trans (hF8.mono (by intro b t hb; exact absurd hb List.not_mem_nil))), (by first | exact Nat.le_zero.mp hk9 | omega)⟩) dJ39_iterator_20 (Nat.le_of_ble_eq_true rfl) (Nat.le_of_ble_eq_true rfl)
