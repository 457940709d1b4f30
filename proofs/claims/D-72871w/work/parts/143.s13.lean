/-! a node drives; a node acts: the component beside the reference -/
set_option maxRecDepth 100000
theorem sim_idles {f : Nat → Int32} {k q : Nat} {x : NS} {V : List pqE} {sm pl ol : Int32} (hk : k < 4) (h : relV f k q x V) (hp : x.ph = 3) (hv : sm = 0 ∨ sm = 1) (hpl : f 1025 = pl) (hol : f 1026 = ol) (hd : f (256 * k + 26) = T_drv f k) (hcu : x.cu = x.W.head?.map Prod.fst) :
    relV (T_idles f k sm (nRm f k) (nLw f k)) k (q + 1) (cRdyP x.g x.ph sm pl ol, x.cu, cRdyG x.g sm pl ol, cRdyS x.s sm, cRdyE x.g x.e sm, x.W, x.R, x.C, x.ad) V := by
  have hK := h.1
  have hP := h.2.2.1
  have h26 : f (256 * k + 26) = x.g 9 := hK.1.2.2.2.2.2.2.2.2.2.2.2.1
  have c3 := hK.2.2.1
  unfold T_idles cRdyP cRdyG cRdyS cRdyE
  rw [h26]
  by_cases g9 : x.g 9 = 0
  · simp only [if_pos g9]
    have hne : V ≠ [] := by
      intro z
      have h23 := c3.2.2.2.2.2.1
      rw [h26, g9] at hd
      unfold T_drv T_drives at hd
      rw [hP.phN, hp, if_pos rfl, h23, z] at hd
      exact absurd hd (by decide)
    obtain ⟨e0, V', rfl⟩ : ∃ e0 V', V = e0 :: V' := by
      cases V with
      | nil => exact absurd rfl hne
      | cons a b => exact ⟨a, b, rfl⟩
    have hV0 : (e0 :: V')[0]? = some e0 := rfl
    obtain ⟨w1, w2, w3, w4⟩ := c3.2.2.2.2.2.2.1 0 e0 hV0
    simp only [Nat.mul_zero, Nat.add_zero] at w1 w2 w3 w4
    obtain ⟨n, n4, en⟩ := c3.2.2.2.2.2.2.2.2.1 e0 (List.mem_cons_self ..)
    have eR : nRm f k = e0.2.2.1 := by unfold nRm; rw [w2]; cases e0.2.2.1 <;> rfl
    have eL : nLw f k = n := by unfold nLw; rw [w3, en]; exact nI_clamp (by omega)
    have hcu0 : x.cu = some e0.1 := by
      have hp2 := c3.1
      cases hW : x.W with
      | nil => rw [hW] at hp2; exact absurd hp2.length_eq (by simp)
      | cons a W' =>
        have hH := c3.2.2.1
        rw [hW] at hp2 hH
        have := srt_head c3.2.1 hH hp2
        rw [hcu, hW, this]; rfl
    rw [eR, eL]
    rcases hv with s0 | s1
    · simp only [if_pos s0, decide_eq_true g9]
      exact (sim_beg_t hK hV0 hcu0 en n4).mono (by omega)
    · have ns : ¬ sm = 0 := by rw [s1]; decide
      simp only [if_neg ns]
      have u : ∀ c, c ≠ 1 → upd f (256 * k + 1) 1 (256 * k + c) = f (256 * k + c) := fun c a => pk_un (by omega)
      have hK1 : relK (upd f (256 * k + 1) 1) k q (x.ph, x.cu, upd x.g 2 1, x.s, x.e, x.W, x.R, x.C, x.ad) (e0 :: V') := (hK.g (g' := upd x.g 2 1) (fun j hj => pk_un (by omega)) hK.1.2.2.2.2.2.2.2.2.2.2.1).fr (fun c hc => u c (by omega))
      exact sim_errs (f := upd f (256 * k + 1) 1) (x := (x.ph, x.cu, upd x.g 2 1, x.s, x.e, x.W, x.R, x.C, x.ad)) hk (by omega) (by omega) hK1 (show upd f (256 * k + 1) 1 (256 * k + 1) = 1 from pk_us) (Or.inr rfl) ((pk_un (by omega)).trans hpl) ((pk_un (by omega)).trans hol)
  · simp only [if_neg g9]
    rcases hv with s0 | s1
    · simp only [if_pos s0, decide_eq_false g9]
      exact (sim_beg_f hK).mono (by omega)
    · have ns : ¬ sm = 0 := by rw [s1]; decide
      simp only [if_neg ns]
      exact h.mono (by omega)
theorem relN.ph {f : Nat → Int32} {k q : Nat} {x : NS} (h : relN f k q x) : nPh f k = x.ph ∧ x.ph < 10 := by
  obtain ⟨V, h⟩ := h
  exact ⟨h.2.2.1.phN, h.2.2.1.1.2⟩
/-- what holds between driving and acting -/
def drvn (f : Nat → Int32) (k : Nat) (x : NS) : Prop := f (256 * k + 26) = T_drv f k ∧ (x.ph = 3 → x.cu = x.W.head?.map Prod.fst)
theorem sim_acts {f : Nat → Int32} {k q ca y p : Nat} {x : NS} {sm pl ol rv : Int32} (hk : k < 4) (hq : q < 1000000) (h : relN f k q x) (hv : sm = 0 ∨ sm = 1) (hpl : f 1025 = pl) (hol : f 1026 = ol) (hrv : f 1027 = rv) (hpn : pl = nI p) (h8 : 8 ≤ p) (h128 : p ≤ 128) (hd : drvn f k x) (hy : x.ph = 4 → ∀ e ∈ x.W, e.1 ≠ y) (hcu : x.ph = 4 → ¬ x.g 2 = 0 → x.cu = some ca) :
    relN (T_acts f k sm) k (q + 1) (nAct x sm pl ol rv ca y) := by
  obtain ⟨V, h⟩ := h
  have hP := h.2.2.1
  have hph := hP.phN
  have h10 := hP.1.2
  unfold T_acts nAct
  rw [hph]
  rcases (show x.ph = 0 ∨ x.ph = 1 ∨ x.ph = 2 ∨ x.ph = 3 ∨ x.ph = 4 ∨ x.ph = 5 ∨ x.ph = 6 ∨ x.ph = 7 ∨ x.ph = 8 ∨ x.ph = 9 by omega) with z | z | z | z | z | z | z | z | z | z
  · simp (decide := true) only [z, if_true, if_false]
    exact ⟨V, h.mono (by omega)⟩
  · have e := sim_recov (sm := sm) hk h z hrv
    rw [z] at e
    simp (decide := true) only [z, if_true, if_false]
    exact ⟨V, e.mono (by omega)⟩
  · have e := sim_join (sm := sm) h z
    rw [z] at e
    simp (decide := true) only [z, if_true, if_false]
    exact ⟨V, e.mono (by omega)⟩
  · have e := sim_idles hk h z hv hpl hol hd.1 (hd.2 z)
    rw [z] at e
    simp (decide := true) only [z, if_true, if_false]
    exact ⟨V, e⟩
  · obtain ⟨b, ln, hS, hT, hO⟩ := h.2.2.2 z
    have hneg : (f (256 * k + 22) < 0) ↔ smStfB x.s = true := by
      rw [stf_iff hS]
      rcases hT with ⟨a1, a2, -⟩ | ⟨a1, a2, a3, t, a4, a5, -⟩
      · rw [a2]; exact ⟨fun _ => a1, fun _ => by decide⟩
      · rw [a5]
        refine ⟨fun w => absurd w (nI_pos (by omega)), fun w => ?_⟩
        rcases w with w | w | w
        · omega
        · omega
        · exact absurd w a3
    by_cases st : smStfB x.s = true
    · have e := sim_stuffed hk h z st hv hpl hol hd.1
      simp (decide := true) only [z, if_true, if_false, if_pos (hneg.mpr st), cBsyP, cBsyG, cBsyS, cBsyE, cBsyW, cBsyR, if_pos st]
      rw [z] at e
      exact ⟨V, e⟩
    · obtain ⟨V', e⟩ := sim_tails (ca := ca) (y := y) hk hq h z st hv hpl hol hpn h8 h128 (hy z) (hcu z)
      simp (decide := true) only [z, if_true, if_false, if_neg (fun w => st (hneg.mp w)), cBsyP, cBsyG, cBsyS, cBsyE, cBsyW, cBsyR, if_neg st]
      rw [z] at e
      exact ⟨V', e⟩
  · have e := sim_flags (b := true) h (Or.inl ⟨z, rfl⟩)
    rw [z] at e
    simp (decide := true) only [z, if_true, if_false]
    exact ⟨V, e.mono (by omega)⟩
  · have e := sim_flags (b := false) h (Or.inr ⟨z, rfl⟩)
    rw [z] at e
    simp (decide := true) only [z, if_true, if_false]
    exact ⟨V, e.mono (by omega)⟩
  · have e := sim_delim hk h z hv hpl hol
    rw [z] at e
    simp (decide := true) only [z, if_true, if_false]
    exact ⟨V, e⟩
  · have e := sim_inter hk h z hv hpl
    rw [z] at e
    simp (decide := true) only [z, if_true, if_false]
    exact ⟨V, e.mono (by omega)⟩
  · have e := sim_susp hk h z hv
    rw [z] at e
    simp (decide := true) only [z, if_true, if_false]
    exact ⟨V, e.mono (by omega)⟩
/-- a node's drive -/
theorem relN.cur {f : Nat → Int32} {k q : Nat} {x : NS} (h : relN f k q x) : ∃ ca d pn ln, nCur x ca d pn ln := by
  obtain ⟨V, h⟩ := h
  by_cases z : x.ph = 4 ∧ ¬ x.g 2 = 0
  · obtain ⟨b, l0, hS, -, hO⟩ := h.2.2.2 z.1
    have hby := byS_le (s := x.s) hS.1.2.2
    have hb := hS.1.2.1
    obtain ⟨ca, d, lw, o1, o2, o3⟩ := hO z.2
    exact ⟨ca, d, b, lw, fun _ _ => ⟨o1, h.1.2.2.1.1.mem_iff.mp o2, o3.1.1, o3.1.2, hS.2.1.2, by omega⟩⟩
  · exact ⟨0, (0, false, 0, 0, 0), 0, 0, fun a b => absurd ⟨a, b⟩ z⟩
theorem relN.curCa {f : Nat → Int32} {k q ca pn ln : Nat} {d : frD} {x : NS} (h : nCur x ca d pn ln) : x.ph = 4 → ¬ x.g 2 = 0 → x.cu = some ca := fun a b => (h a b).1
theorem sim_drv {f : Nat → Int32} {k q ca pn ln : Nat} {d : frD} {x : NS} {V : List pqE} (h : relV f k q x V) (hc : nCur x ca d pn ln) : nDrv x d pn ln = T_drv f k := by
  have hP := h.2.2.1
  have c3 := h.1.2.2.1
  unfold nDrv T_drv T_drives
  rw [hP.phN]
  by_cases z3 : x.ph = 3
  · rw [if_pos z3, if_pos z3, c3.2.2.2.2.2.1]
    unfold cRdyD
    have hl := c3.1.length_eq
    cases hW : x.W with
    | nil =>
      have : V.length = 0 := by rw [hl, hW]; rfl
      rw [this]; rfl
    | cons a W' =>
      have : V.length = W'.length + 1 := by rw [hl, hW]; rfl
      rw [if_neg (by simp), if_neg (nI_nle (by omega) (by have := c3.2.2.2.2.1; omega))]
  · rw [if_neg z3, if_neg z3]
    by_cases z4 : x.ph = 4
    · rw [if_pos z4, if_pos z4]
      obtain ⟨b, l0, hS, hT, hO⟩ := h.2.2.2 z4
      have hby := byS_le (s := x.s) hS.1.2.2
      have hb := hS.1.2.1
      have hf1 : f (256 * k + 1) = x.g 2 := hP.f1 (by omega) (by omega)
      unfold T_drvF
      rw [hf1]
      rcases hP.2.1 with g0 | g1
      · rw [if_pos g0, if_neg (by rw [g0]; decide)]
        unfold cDrvR
        rcases hT with ⟨a1, a2, -⟩ | ⟨a1, a2, a3, t, a4, a5, a6⟩
        · rw [if_pos ((stf_iff hS).mpr a1), a2, if_neg (fun w => absurd w.1 (by decide))]
        · have ns : ¬ smStfB x.s = true := fun w => by
            rcases (stf_iff hS).mp w with w | w | w
            · omega
            · omega
            · exact a3 w
          have q1 : (x.s 9 = 1) ↔ t = 1 := by rw [a6]; exact nI_eq (b := 1) (by omega) (by decide)
          have q1' : (f (256 * k + 22) = 1) ↔ t = 1 := by rw [a5]; exact nI_eq (b := 1) (by omega) (by decide)
          rw [if_neg ns]
          by_cases t1 : t = 1
          · have eNb : nNb f k = 19 + byS x.s l0 := by
              unfold nNb
              rw [if_pos ⟨hP.phN.trans z4, Or.inl (q1'.mpr t1)⟩, tot_n hS, if_neg (by omega), nI_clamp (by omega)]
              omega
            have ec : crcT f (256 * k + 90) (19 + byS x.s l0) = x.s 7 := by
              rw [hS.2.2.2.2.2.2.2.2.2.2.1, show min b (19 + byS x.s l0) = 19 + byS x.s l0 by omega]
            have es : smT f (256 * k + (19 + byS x.s l0) + 90) 15 = x.s 8 := by
              rw [hS.2.2.2.2.2.2.2.2.2.2.2, show b - (19 + byS x.s l0) = 15 by omega, show 256 * k + (19 + byS x.s l0) + 90 = 256 * k + 109 + byS x.s l0 by omega]
            rw [if_pos (q1.mpr t1), eNb, ec, es]
            by_cases e : x.s 7 = x.s 8
            · rw [if_pos e, if_pos ⟨q1'.mpr t1, e⟩]
            · rw [if_neg e, if_neg (fun w => e w.2)]
          · rw [if_neg (fun w => t1 (q1.mp w)), if_neg (fun w => t1 (q1'.mp w.1))]
      · have n0 : ¬ x.g 2 = 0 := by rw [g1]; decide
        obtain ⟨m1, m2, m3, m4, m5, m6⟩ := hc z4 n0
        have hpn : pn = b := (nI_eq (by omega) (by omega)).mp (m5.symm.trans hS.2.1.2)
        subst hpn
        obtain ⟨ca', d', lw, o1, o2, o3⟩ := hO n0
        have eca : ca' = ca := Option.some.inj (o1.symm.trans m1)
        subst eca
        have ed : d' = d := by
          have hn := c3.2.2.2.1
          have hm2 := c3.1.mem_iff.mpr m2
          obtain ⟨i, hi⟩ := List.getElem?_of_mem o2
          obtain ⟨j, hj⟩ := List.getElem?_of_mem hm2
          by_cases e : i = j
          · subst e; rw [hi] at hj; exact (Prod.mk.inj (Option.some.inj hj)).2
          · exact absurd rfl (nd_ne (d := (ca', d')) (e := (ca', d)) hn hi hj e)
        subst ed
        have el : lw = ln := (nI_eq (by have := o3.1.2; omega) (by omega)).mp (o3.1.1.symm.trans m3)
        subst el
        rw [if_neg n0, if_pos g1]
        unfold cDrvT
        have hB : (f (256 * k + 19)).toNatClampNeg = pn := hS.bN
        rcases hT with ⟨a1, a2, -⟩ | ⟨a1, a2, a3, t, a4, a5, a6⟩
        · rw [if_pos ((stf_iff hS).mpr a1), a2, if_neg (show ¬ (0 : Int32) ≤ -1 by decide), hS.2.2.1.1, hS.2.2.2.1.1, hB]
          by_cases e : x.s 1 = 5
          · rw [if_pos e, if_pos e]
          · rw [if_neg e, if_neg e]
            refine (o3.2.2.1 pn ?_).symm
            rcases a1 with w | w | w
            · omega
            · by_cases y : 19 ≤ pn
              · obtain ⟨-, y2⟩ := o3.by hS y; omega
              · omega
            · exact absurd w e
        · have ns : ¬ smStfB x.s = true := fun w => by
            rcases (stf_iff hS).mp w with w | w | w
            · omega
            · omega
            · exact a3 w
          rw [if_neg ns, a5, if_pos (nI_pos' (by omega))]
    · rw [if_neg z4, if_neg z4]
      by_cases z5 : x.ph = 5
      · rw [if_pos z5, if_pos z5]
        unfold cActO
        have h18 := h.1.1.2.2.2.2.2.2.2.2.2.1
        rw [h18.1]
        rcases h18.2 with g0 | g1
        · rw [if_pos g0, g0]; rfl
        · rw [if_neg (by rw [g1]; decide), g1]; rfl
      · rw [if_neg z5, if_neg z5]
theorem T_drv_01 {f : Nat → Int32} {k q : Nat} {x : NS} (h : relN f k q x) : T_drv f k = 0 ∨ T_drv f k = 1 := by
  obtain ⟨ca, d, pn, ln, hc⟩ := h.cur
  obtain ⟨V, h⟩ := h
  rw [← sim_drv h hc]
  unfold nDrv
  split
  · unfold cRdyD; split <;> simp
  · split
    · rename_i z3 z4
      obtain ⟨b, l0, hS, hT, hO⟩ := h.2.2.2 z4
      split
      · unfold cDrvR; repeat' split
        all_goals simp
      · unfold cDrvT
        repeat' split
        · rcases hS.2.2.2.1.2 with w | w <;> rw [w] <;> decide
        · exact frBT_01
        · simp
    · split
      · unfold cActO; split <;> simp
      · split <;> simp
/-- driving leaves the rest as it was -/
theorem T_drv_c {F f : Nat → Int32} {k q : Nat} {x : NS} (h : relN f k q x) (hF : cgB k F f) : T_drv F k = T_drv f k := by
  obtain ⟨ca, d, pn, ln, hc⟩ := h.cur
  obtain ⟨V, h⟩ := h
  have hB : nB f k ≤ 66 := by
    obtain ⟨n, n1, n2⟩ := h.1.2.2.2.2.2.2
    unfold nB; rw [n2, nI_clamp (by omega)]; exact n1
  have hN : nNb f k ≤ 51 := by
    unfold nNb
    split
    · rename_i w
      have z4 : x.ph = 4 := h.2.2.1.phN.symm.trans w.1
      obtain ⟨b, l0, hS, hT, hO⟩ := h.2.2.2 z4
      have hby := byS_le (s := x.s) hS.1.2.2
      rcases hT with ⟨a1, a2, -⟩ | ⟨a1, a2, a3, -⟩
      · rw [a2] at w
        exact absurd w.2 (by decide)
      · rw [tot_n hS, if_neg (by omega), nI_clamp (by omega)]; omega
    · omega
  exact hF.drv hB hN
theorem sim_drive {f : Nat → Int32} {k q : Nat} {x : NS} {V : List pqE} (h : relV f k q x V) : relV (upd f (256 * k + 26) (T_drv f k)) k q ((nDrvX x).ph, (nDrvX x).cu, upd (nDrvX x).g 9 (T_drv f k), (nDrvX x).s, (nDrvX x).e, (nDrvX x).W, (nDrvX x).R, (nDrvX x).C, (nDrvX x).ad) V := by
  have h01 := T_drv_01 ⟨V, h⟩
  obtain ⟨v, ev⟩ : ∃ z, z = T_drv f k := ⟨_, rfl⟩
  rw [← ev] at h01 ⊢
  have u : ∀ c, c ≠ 26 → upd f (256 * k + 26) v (256 * k + c) = f (256 * k + c) := fun c a => pk_un (by omega)
  obtain ⟨⟨d1, d2, d3, d4, d5, d6, d7⟩, g2, ⟨⟨p1, p2⟩, p3, p4, p5, p6, p7, p8⟩, g4⟩ := h
  have hC : rC (upd f (256 * k + 26) v) k q (upd x.g 9 v) x.e := by
    obtain ⟨a1, a2, a3, a4, a5, a6, a7, a8, a9, a10, a11, a12⟩ := d1
    have hl : T_last (upd f (256 * k + 26) v) k = T_last f k := by unfold T_last; rw [u 11 (by omega)]
    refine ⟨by rw [u 4 (by omega)]; exact a1, by rw [u 5 (by omega)]; exact a2, fun j b1 b2 => ?_, hl.trans a4, (u 12 (by omega)).trans a5, by rw [u 14 (by omega)]; exact a6, (u 15 (by omega)).trans a7, (u 16 (by omega)).trans a8, (u 17 (by omega)).trans a9, by rw [u 18 (by omega)]; exact a10, a11, pk_us, h01⟩
    rw [Nat.add_assoc, u _ (by omega), ← Nat.add_assoc]
    exact a3 j b1 b2
  have hall : ∀ cu, (x.ph = 4 → cu = x.cu) → relV (upd f (256 * k + 26) v) k q (x.ph, cu, upd x.g 9 v, x.s, x.e, x.W, x.R, x.C, x.ad) V := by
    intro cu hcu
    refine ⟨⟨hC, (u 13 (by omega)).trans d2, d3.fr (fun c hc => u c (by omega)), d4.fr (fun c hc => u c (by omega)), d5.fr (fun c hc => u c (by omega)), d6, by rw [u 19 (by omega)]; exact d7⟩, ?_, ⟨⟨(u 0 (by omega)).trans p1, p2⟩, p3, (u 1 (by omega)).trans p4, (u 2 (by omega)).trans p5, fun z => ⟨(u 3 (by omega)).trans (p6 z).1, (p6 z).2⟩, fun z => (u 3 (by omega)).trans (p7 z), p8⟩, ?_⟩
    · have e : nSnd (x.ph, cu, upd x.g 9 v, x.s, x.e, x.W, x.R, x.C, x.ad) = nSnd x := by
        unfold nSnd
        show (if x.ph = 4 ∧ ¬ x.g 2 = 0 then cu else none) = if x.ph = 4 ∧ ¬ x.g 2 = 0 then x.cu else none
        by_cases z : x.ph = 4 ∧ ¬ x.g 2 = 0
        · rw [if_pos z, if_pos z, hcu z.1]
        · rw [if_neg z, if_neg z]
      rw [e]
      exact g2.fr d3.2.2.2.2.1 (fun c hc => u c (by omega))
    · intro z
      obtain ⟨b, ln, s1, s2, s3⟩ := g4 z
      refine ⟨b, ln, s1.fr (fun c hc => u c (by omega)), s2.fr (u 22 (by omega)), fun y => ?_⟩
      obtain ⟨ca, d, lw, o1, o2, o3⟩ := s3 y
      exact ⟨ca, d, lw, (hcu z).trans o1, o2, o3.fr (fun c hc => u c (by omega))⟩
  by_cases z3 : x.ph = 3
  · have e : nDrvX x = (x.ph, x.W.head?.map Prod.fst, x.g, x.s, x.e, x.W, x.R, x.C, x.ad) := if_pos z3
    rw [e]
    exact hall _ (fun z => by omega)
  · have e : nDrvX x = x := if_neg z3
    rw [e]
    exact hall _ (fun _ => rfl)
theorem relN.ok {f : Nat → Int32} {k q : Nat} {x : NS} (h : relN f k q x) : okS f k := by
  obtain ⟨V, h⟩ := h
  have hP := h.2.2.1
  obtain ⟨c1, c2, c3, c4, c5, c6, n19, c7, c8⟩ := h.1
  have hph := hP.phN
  have eB : nB f k = n19 := by unfold nB; rw [c8, nI_clamp (by omega)]
  have eNa : nNa f k = x.C.length := by unfold nNa; rw [c5.2.2.1]; exact nI_clamp (by have := c5.2.1; omega)
  have eNw : nNw f k = V.length := by unfold nNw; rw [c3.2.2.2.2.2.1]; exact nI_clamp (by have := c3.2.2.2.2.1; omega)
  have eNr : nNr f k = x.R.length := by unfold nNr; rw [c4.2.1]; exact nI_clamp (by have := c4.1; omega)
  have key : nPh f k = 4 → ∀ n, n ≤ 9 → f (256 * k + 22) = nI n → ∃ b ln, rS f k x.s b ln ∧ 19 ≤ b ∧ b = 34 + byS x.s ln ∧ (¬ x.g 2 = 0 → ∃ ca d lw, x.cu = some ca ∧ (ca, d) ∈ V ∧ rO f k b d lw) := by
    intro z n hn e
    obtain ⟨b, ln, hS, hT, hO⟩ := h.2.2.2 (hph.symm.trans z)
    refine ⟨b, ln, hS, ?_⟩
    rcases hT with ⟨a1, a2, -⟩ | ⟨a1, a2, a3, -⟩
    · rw [a2] at e
      have : ¬ nI n < 0 := nI_pos (by omega)
      rw [← e] at this
      exact absurd (by decide) this
    · exact ⟨a1, a2, hO⟩
  obtain ⟨n8, n81, n82⟩ := c3.2.2.2.2.2.2.2.1 0 (by omega)
  simp only [Nat.mul_zero, Nat.add_zero] at n82
  have eL : nLw f k = n8 := by unfold nLw; rw [n82, nI_clamp (by omega)]
  have tot : nPh f k = 4 → (f (256 * k + 22) = 1 ∨ f (256 * k + 22) = 2) → T_total f k = nI (nNb f k + 15) ∧ nNb f k ≤ 51 := by
    intro z w
    obtain ⟨n, hn, e⟩ : ∃ n, n ≤ 9 ∧ f (256 * k + 22) = nI n := by
      rcases w with w | w
      · exact ⟨1, by omega, w⟩
      · exact ⟨2, by omega, w⟩
    obtain ⟨b, ln, hS, b1, b2, -⟩ := key z n hn e
    have hby := byS_le (s := x.s) hS.1.2.2
    have eN : nNb f k = 19 + byS x.s ln := by
      unfold nNb
      rw [if_pos ⟨z, w⟩, tot_n hS, if_neg (by omega), nI_clamp (by omega)]
      omega
    rw [eN, tot_n hS, if_neg (by omega)]
    exact ⟨by congr 1; omega, by omega⟩
  have len : nPh f k = 4 → f (256 * k + 22) = 8 → smT f (256 * k + 15 + 90) 4 = nI (nLn f k) ∧ nLn f k ≤ 4 := by
    intro z w
    obtain ⟨b, ln, hS, b1, b2, -⟩ := key z 8 (by omega) w
    have h5 := hS.2.2.2.2.2.2.2.2.1 b1
    have h5' := hS.2.2.2.2.2.2.2.1
    rw [show min (b - 15) 4 = 4 by omega] at h5'
    have l4 := hS.1.2.2
    have eN : nLn f k = ln := by
      unfold nLn
      rw [if_pos ⟨z, w⟩, show 256 * k + 15 + 90 = 256 * k + 105 by omega, ← h5', h5]
      exact nI_clamp (by omega)
    rw [eN, show 256 * k + 15 + 90 = 256 * k + 105 by omega, ← h5', h5]
    exact ⟨rfl, l4⟩
  refine ⟨⟨by rw [hph]; exact hP.1.1, by rw [hph]; exact hP.1.2⟩, ⟨by rw [eB]; exact c8, by rw [eB]; exact c7⟩, ?_, fun z w => (tot z w).1, ⟨by rw [eNa]; exact c5.2.2.1, by rw [eNa]; exact c5.2.1⟩, ⟨by rw [eNw]; exact c3.2.2.2.2.2.1, by rw [eNw]; exact c3.2.2.2.2.1⟩, ⟨by rw [eNr]; exact c4.2.1, by rw [eNr]; exact c4.1⟩, ?_, fun z w => (len z w).1, fun z w w1 => ?_, by rw [eL]; exact n81, fun z => ?_⟩
  · by_cases z : nPh f k = 4 ∧ (f (256 * k + 22) = 1 ∨ f (256 * k + 22) = 2)
    · exact (tot z.1 z.2).2
    · unfold nNb; rw [if_neg z]; omega
  · by_cases z : nPh f k = 4 ∧ f (256 * k + 22) = 8
    · exact (len z.1 z.2).2
    · unfold nLn; rw [if_neg z]; omega
  · obtain ⟨b, ln, hS, b1, b2, hO⟩ := key z 9 (by omega) w
    have z4 : x.ph = 4 := hph.symm.trans z
    have g1 : x.g 2 = 1 := (hP.f1 (by omega) (by omega)).symm.trans w1
    have n0 : ¬ x.g 2 = 0 := by rw [g1]; decide
    obtain ⟨ca, d, lw, o1, o2, o3⟩ := hO n0
    have hsn : nSnd x = some ca := (if_pos ⟨z4, n0⟩).trans o1
    have hF := h.2.1
    rw [hsn] at hF
    obtain ⟨i, i1, i2, i3, i4⟩ := hF.sx c3.2.2.2.1 c3.2.2.2.2.1 o2
    rw [i3, eNw]
    exact ⟨by omega, i4⟩
  · rw [eNw] at z
    have hV0 : V[0]? = some V[0] := List.getElem?_eq_getElem (by omega)
    obtain ⟨w1, w2, w3, w4⟩ := c3.2.2.2.2.2.2.1 0 _ hV0
    simp only [Nat.mul_zero, Nat.add_zero] at w1 w2 w3 w4
    have eR : nRm f k = V[0].2.2.1 := by unfold nRm; rw [w2]; cases V[0].2.2.1 <;> rfl
    rw [eR, eL]
    exact ⟨w2, n82⟩
