/-! the tail of a frame, whole -/
set_option maxRecDepth 100000
theorem rT.tail {f : Nat → Int32} {k b ln : Nat} {s : Nat → Int32} (h : rT f k s b ln) (hS : rS f k s b ln) (hst : ¬ smStfB s = true) : 19 ≤ b ∧ b = 34 + byS s ln ∧ ¬ s 1 = 5 ∧ ∃ t, t ≤ 9 ∧ f (256 * k + 22) = nI t ∧ s 9 = nI t := by
  rcases h with ⟨a, -⟩ | a
  · exact absurd ((stf_iff hS).mpr a) hst
  · exact a
theorem sim_tails {f : Nat → Int32} {k q ca y p : Nat} {x : NS} {V : List pqE} {sm pl ol : Int32} (hk : k < 4) (hq : q < 1000000) (h : relV f k q x V) (hp : x.ph = 4) (hst : ¬ smStfB x.s = true) (hv : sm = 0 ∨ sm = 1) (hpl : f 1025 = pl) (hol : f 1026 = ol) (hpn : pl = nI p) (h8 : 8 ≤ p) (h128 : p ≤ 128) (hy : ∀ e ∈ x.W, e.1 ≠ y) (hcu : ¬ x.g 2 = 0 → x.cu = some ca) :
    ∃ V', relV (T_tails f k sm (nNa f k) (nNw f k) (nNr f k) (nLn f k) (nSx f k) (nNw f k - 1) (nNb f k)) k (q + 1) (cTlP x.g x.s x.ph sm pl ol, x.cu, cTlG x.g x.s sm pl ol x.W x.R x.C, cTlS x.s, cTlE x.g x.s x.e sm, cTlW x.g x.s sm ca x.W x.C x.ad y, cTlR x.g x.s sm x.R x.C y, x.C, x.ad) V' := by
  have hK := h.1
  have hP := h.2.2.1
  obtain ⟨b, ln, hS, hT, hO⟩ := h.2.2.2 hp
  have hby := byS_le (s := x.s) hS.1.2.2
  obtain ⟨t1, t2, t3, t, t4, t5, t6⟩ := hT.tail hS hst
  have hf1 : f (256 * k + 1) = x.g 2 := hP.f1 (by omega) (by omega)
  have hg2 := hP.2.1
  have h0 : f (256 * k) = nI x.ph := hP.1.1
  obtain ⟨c1, c2, c3, c4, c5, c6, c7⟩ := hK
  have eNa : nNa f k = x.C.length := by unfold nNa; rw [c5.2.2.1]; exact nI_clamp (by have := c5.2.1; omega)
  have eNw : nNw f k = V.length := by unfold nNw; rw [c3.2.2.2.2.2.1]; exact nI_clamp (by have := c3.2.2.2.2.1; omega)
  have eNr : nNr f k = x.R.length := by unfold nNr; rw [c4.2.1]; exact nI_clamp (by have := c4.1; omega)
  have hph : nPh f k = 4 := hP.phN.trans hp
  have h5 := hS.2.2.2.2.2.2.2.2.1 t1
  have eLn : t = 8 → nLn f k = ln := by
    intro z
    unfold nLn
    rw [if_pos ⟨hph, by rw [t5, z]; rfl⟩, show 256 * k + 15 + 90 = 256 * k + 105 by omega]
    have := hS.2.2.2.2.2.2.2.1
    rw [show min (b - 15) 4 = 4 by omega] at this
    rw [← this, h5]
    exact nI_clamp (by have := hS.1.2.2; omega)
  have eNb : t = 1 ∨ t = 2 → nNb f k = 19 + byS x.s ln := by
    intro z
    unfold nNb
    rw [if_pos ⟨hph, by rw [t5]; rcases z with rfl | rfl; exact Or.inl rfl; exact Or.inr rfl⟩, tot_n hS, if_neg (by omega), nI_clamp (by omega)]
    omega
  obtain ⟨F, eF⟩ : ∃ z, z = upd f (256 * k + 22) (f (256 * k + 22) + 1) := ⟨_, rfl⟩
  have u : ∀ c, c ≠ 22 → F (256 * k + c) = f (256 * k + c) := fun c a => by rw [eF]; exact pk_un (by omega)
  have ug : ∀ c, 1024 ≤ c → F c = f c := fun c a => by rw [eF]; exact pk_un (by omega)
  have u22 : F (256 * k + 22) = nI (t + 1) := by rw [eF, pk_us, t5]; exact nI_1 t
  have s9 : cTlS x.s 9 = nI (t + 1) := by show x.s 9 + 1 = _; rw [t6]; exact nI_1 t
  have hS1 : rS F k (cTlS x.s) b ln := by
    have := hS.fr (F := F) (fun c hc => u c (by omega))
    exact this
  have hK1 : relK F k q (x.ph, x.cu, x.g, cTlS x.s, x.e, x.W, x.R, x.C, x.ad) V := h.1.fr2 (s := cTlS x.s) hS.s4 ⟨b, by omega, (u 19 (by omega)).trans hS.2.1.1⟩ (fun c hc => u c (by omega))
  have hF1 : F (256 * k + 1) = x.g 2 := (u 1 (by omega)).trans hf1
  have stay : t ≤ 8 → relV F k q (x.ph, x.cu, x.g, cTlS x.s, x.e, x.W, x.R, x.C, x.ad) V := fun ht => sim_stay h hp hS1 (Or.inr ⟨t1, t2, t3, t + 1, by omega, u22, s9⟩) (fun c hc hc2 => u c (by omega)) (fun z => by
    obtain ⟨ca', d, lw, o1, o2, o3⟩ := hO z
    exact ⟨ca', d, lw, o1, o2, o3.fr (fun c hc => u c (by omega))⟩)
  have fail : ∀ kd, 1 ≤ kd → kd ≤ 5 → relV (T_errs F k kd) k (q + 1) (cFailP x.g kd pl ol, x.cu, cFailG x.g kd pl ol, cTlS x.s, cFailE x.e kd, x.W, x.R, x.C, x.ad) V := fun kd a b => sim_errs (x := (x.ph, x.cu, x.g, cTlS x.s, x.e, x.W, x.R, x.C, x.ad)) hk a b hK1 hF1 hg2 ((ug 1025 (by omega)).trans hpl) ((ug 1026 (by omega)).trans hol)
  have q1 : (f (256 * k + 22) = 1) ↔ t = 1 := by rw [t5]; exact nI_eq (b := 1) (by omega) (by decide)
  have q2 : (f (256 * k + 22) = 2) ↔ t = 2 := by rw [t5]; exact nI_eq (b := 2) (by omega) (by decide)
  have q8 : (f (256 * k + 22) = 8) ↔ t = 8 := by rw [t5]; exact nI_eq (b := 8) (by omega) (by decide)
  have q9 : (f (256 * k + 22) = 9) ↔ t = 9 := by rw [t5]; exact nI_eq (b := 9) (by omega) (by decide)
  have p1 : (x.s 9 = 1) ↔ t = 1 := by rw [t6]; exact nI_eq (b := 1) (by omega) (by decide)
  have p2 : (x.s 9 = 2) ↔ t = 2 := by rw [t6]; exact nI_eq (b := 2) (by omega) (by decide)
  have p8 : (x.s 9 = 8) ↔ t = 8 := by rw [t6]; exact nI_eq (b := 8) (by omega) (by decide)
  have p9 : (x.s 9 = 9) ↔ t = 9 := by rw [t6]; exact nI_eq (b := 9) (by omega) (by decide)
  have eT : ∀ na nw nr l sx ns nb, T_tails f k sm na nw nr l sx ns nb = if t = 1 then (if sm = 1 ∧ x.g 2 = 1 then T_errs F k 5 else F) else if t = 9 then T_ends F k sm sx ns else if sm = 0 then (if x.g 2 = 1 then T_errs F k 1 else T_errs F k 4) else if t = 2 ∧ ¬ x.g 2 = 1 ∧ ¬ crcT F (256 * k + 90) nb = smT F (256 * k + nb + 90) 15 then T_errs F k 3 else if t = 8 ∧ ¬ x.g 2 = 1 then T_acc F k na nw nr l else F := by
    intro na nw nr l sx ns nb
    unfold T_tails
    simp only [q1, q2, q8, q9, hf1, ← eF]
  rw [eT, eNa, eNw, eNr]
  have eK : cTlK x.g x.s sm = if t = 1 then (if x.g 2 = 0 then 0 else if sm = 1 then 5 else 0) else if sm = 0 then (if t = 9 then (if x.g 2 = 0 then 6 else 1) else if x.g 2 = 0 then 4 else 1) else if t = 9 then 7 else if t = 2 then (if x.g 2 = 0 then (if x.s 7 = x.s 8 then 0 else 3) else 0) else if t = 8 then (if x.g 2 = 0 then 8 else 0) else 0 := by
    unfold cTlK
    simp only [p1, p2, p8, p9]
  have hFl : rF F k V (nSnd x) := h.2.1.fr c3.2.2.2.2.1 (fun c hc => u c (by omega))
  -- what happens, by the number K
  have K0 : cTlK x.g x.s sm = 0 → t ≤ 8 → ∃ V', relV F k (q + 1) (cTlP x.g x.s x.ph sm pl ol, x.cu, cTlG x.g x.s sm pl ol x.W x.R x.C, cTlS x.s, cTlE x.g x.s x.e sm, cTlW x.g x.s sm ca x.W x.C x.ad y, cTlR x.g x.s sm x.R x.C y, x.C, x.ad) V' := by
    intro z ht
    unfold cTlP cTlG cTlE cTlW cTlR
    simp (decide := true) only [z, if_true, if_false]
    exact ⟨V, (stay ht).mono (by omega)⟩
  have KF : ∀ kd, 1 ≤ kd → kd ≤ 5 → cTlK x.g x.s sm = kd → ∃ V', relV (T_errs F k kd) k (q + 1) (cTlP x.g x.s x.ph sm pl ol, x.cu, cTlG x.g x.s sm pl ol x.W x.R x.C, cTlS x.s, cTlE x.g x.s x.e sm, cTlW x.g x.s sm ca x.W x.C x.ad y, cTlR x.g x.s sm x.R x.C y, x.C, x.ad) V' := by
    intro kd a b z
    unfold cTlP cTlG cTlE cTlW cTlR
    rw [z]
    simp only [if_neg (show ¬ kd = 0 by omega), if_neg (show ¬ kd = 6 by omega), if_neg (show ¬ kd = 7 by omega), if_neg (show ¬ kd = 8 by omega), if_pos (show kd < 6 by omega)]
    exact ⟨V, fail kd a b⟩
  by_cases ht1 : t = 1
  · rw [if_pos ht1]
    rcases hg2 with g0 | g1
    · rw [if_neg (fun z => by rw [g0] at z; exact absurd z.2 (by decide))]
      exact K0 (by rw [eK, if_pos ht1, if_pos g0]) (by omega)
    · have n0 : ¬ x.g 2 = 0 := by rw [g1]; decide
      by_cases s1 : sm = 1
      · rw [if_pos ⟨s1, g1⟩]
        exact KF 5 (by omega) (by omega) (by rw [eK, if_pos ht1, if_neg n0, if_pos s1])
      · rw [if_neg (fun z => s1 z.1)]
        exact K0 (by rw [eK, if_pos ht1, if_neg n0, if_neg s1]) (by omega)
  · rw [if_neg ht1]
    rw [if_neg ht1] at eK
    by_cases ht9 : t = 9
    · rw [if_pos ht9]
      have n2 : ¬ t = 2 := by omega
      have n8 : ¬ t = 8 := by omega
      simp only [if_pos ht9] at eK
      by_cases s0 : sm = 0
      · rw [if_pos s0] at eK
        rcases hg2 with g0 | g1
        · rw [if_pos g0] at eK
          have eE : T_ends F k sm (nSx f k) (V.length - 1) = T_goes F k 6 := by
            unfold T_ends
            rw [if_pos s0, if_neg (by rw [hF1, g0]; decide)]
          rw [eE]
          unfold cTlP cTlG cTlE cTlW cTlR
          simp (decide := true) only [eK, if_true, if_false]
          exact ⟨V, (sim_over hK1 hF1 (Or.inl g0)).mono (by omega)⟩
        · have n0 : ¬ x.g 2 = 0 := by rw [g1]; decide
          rw [if_neg n0] at eK
          have eE : T_ends F k sm (nSx f k) (V.length - 1) = T_errs F k 1 := by
            unfold T_ends
            rw [if_pos s0, if_pos (hF1.trans g1)]
          rw [eE]
          exact KF 1 (by omega) (by omega) eK
      · rw [if_neg s0] at eK
        unfold cTlP cTlG cTlE cTlW cTlR
        simp (decide := true) only [eK, if_true, if_false]
        rcases hg2 with g0 | g1
        · have eE : T_ends F k sm (nSx f k) (V.length - 1) = T_goes F k 8 := by
            unfold T_ends
            rw [if_neg s0, if_neg (by rw [hF1, g0]; decide)]
          have eG : cFinG x.g = upd x.g 5 0 := if_pos g0
          have eW : cFinW x.g ca x.W = x.W := if_pos g0
          rw [eE, eG, eW]
          exact ⟨V, (sim_goes (x := (8, x.cu, upd x.g 5 0, cTlS x.s, x.e, x.W, x.R, x.C, x.ad)) hK1 (by show 8 < 10; omega) (by show 8 ≠ 4; omega) (by show 8 ≠ 6; omega) rfl (fun _ => hF1) (Or.inl g0) (fun z => absurd z (by show ¬ 8 = 1; omega)) (fun z => absurd z (by show ¬ 8 = 7; omega))).mono (by omega)⟩
        · have n0 : ¬ x.g 2 = 0 := by rw [g1]; decide
          have hsn : nSnd x = some ca := (if_pos ⟨hp, n0⟩).trans (hcu n0)
          rw [hsn] at hFl
          obtain ⟨ca', d, lw, o1, o2, o3⟩ := hO n0
          have : ca' = ca := Option.some.inj (o1.symm.trans (hcu n0))
          subst this
          have eX : nSx f k = nSx F k := by unfold nSx; rw [u 34 (by omega), u 39 (by omega), u 44 (by omega)]
          rw [eX]
          exact sim_finT (x := (x.ph, x.cu, x.g, cTlS x.s, x.e, x.W, x.R, x.C, x.ad)) hk hK1 hq (hF1.trans g1) g1 hFl o2 sm s0
    · rw [if_neg ht9]
      simp only [if_neg ht9] at eK
      by_cases s0 : sm = 0
      · rw [if_pos s0]
        rw [if_pos s0] at eK
        rcases hg2 with g0 | g1
        · rw [if_neg (by rw [g0]; decide)]
          rw [if_pos g0] at eK
          exact KF 4 (by omega) (by omega) eK
        · rw [if_pos g1]
          rw [if_neg (by rw [g1]; decide)] at eK
          exact KF 1 (by omega) (by omega) eK
      · rw [if_neg s0]
        rw [if_neg s0] at eK
        by_cases ht2 : t = 2
        · rw [if_pos ht2] at eK
          rcases hg2 with g0 | g1
          · rw [if_pos g0] at eK
            rw [eNb (Or.inr ht2)]
            have ec : crcT F (256 * k + 90) (19 + byS x.s ln) = x.s 7 := by
              rw [hS.2.2.2.2.2.2.2.2.2.2.1, show min b (19 + byS x.s ln) = 19 + byS x.s ln by omega]
              exact crcT_c (fun j hj => by rw [Nat.add_assoc]; exact u _ (by omega))
            have es : smT F (256 * k + (19 + byS x.s ln) + 90) 15 = x.s 8 := by
              rw [hS.2.2.2.2.2.2.2.2.2.2.2, show b - (19 + byS x.s ln) = 15 by omega, show 256 * k + (19 + byS x.s ln) + 90 = 256 * k + 109 + byS x.s ln by omega]
              exact smT_c (fun j hj => by rw [Nat.add_assoc, Nat.add_assoc]; exact u _ (by omega))
            rw [ec, es]
            by_cases e : x.s 7 = x.s 8
            · rw [if_pos e] at eK
              rw [if_neg (fun z => z.2.2 e), if_neg (fun z => absurd z.1 (by omega))]
              exact K0 eK (by omega)
            · rw [if_neg e] at eK
              rw [if_pos ⟨ht2, by rw [g0]; decide, e⟩]
              exact KF 3 (by omega) (by omega) eK
          · rw [if_neg (by rw [g1]; decide)] at eK
            rw [if_neg (fun z => z.2.1 g1), if_neg (fun z => absurd z.1 (by omega))]
            exact K0 eK (by omega)
        · rw [if_neg (fun z => ht2 z.1)]
          rw [if_neg ht2] at eK
          by_cases ht8 : t = 8
          · rw [if_pos ht8] at eK
            rcases hg2 with g0 | g1
            · rw [if_pos g0] at eK
              rw [if_pos ⟨ht8, by rw [g0]; decide⟩, eLn ht8]
              unfold cTlP cTlG cTlE cTlW cTlR
              simp (decide := true) only [eK, if_true, if_false]
              exact sim_accept (x := (x.ph, x.cu, x.g, cTlS x.s, x.e, x.W, x.R, x.C, x.ad)) hk hq (stay (by omega)) hp g0 hS1 (Or.inr ⟨t1, t2, t3, t + 1, by omega, u22, s9⟩) t2 ((ug 1025 (by omega)).trans hpl) hpn h8 h128 hy
            · rw [if_neg (by rw [g1]; decide)] at eK
              rw [if_neg (fun z => z.2 g1)]
              exact K0 eK (by omega)
          · rw [if_neg ht8] at eK
            rw [if_neg (fun z => ht8 z.1)]
            exact K0 eK (by omega)
