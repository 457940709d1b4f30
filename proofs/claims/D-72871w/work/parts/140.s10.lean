/-! the tail of a frame: accepting, finishing, all of it -/
set_option maxRecDepth 100000
theorem rC.re {f : Nat → Int32} {k q n : Nat} {g e : Nat → Int32} (h : rC f k q g e) (hn : n ≤ 255) : rC (upd f (256 * k + 5) (nI n)) k q (upd g 4 (nI n)) e := by
  have u : ∀ c, c ≠ 5 → upd f (256 * k + 5) (nI n) (256 * k + c) = f (256 * k + c) := fun c a => pk_un (by omega)
  have hl : T_last (upd f (256 * k + 5) (nI n)) k = T_last f k := by unfold T_last; rw [u 11 (by omega)]
  unfold rC at *
  rw [u 4 (by omega), u 12 (by omega), u 14 (by omega), u 15 (by omega), u 16 (by omega), u 17 (by omega), u 18 (by omega), u 26 (by omega), hl, pk_us]
  obtain ⟨a1, a2, a3, a4⟩ := h
  refine ⟨a1, ⟨⟨n, rfl, hn⟩, rfl⟩, fun j b c => ?_, a4⟩
  rw [Nat.add_assoc, u _ (by omega), ← Nat.add_assoc]
  exact a3 j b c
theorem rC.ov {f : Nat → Int32} {k q : Nat} {g e : Nat → Int32} (h : rC f k q g e) : rC (upd f (256 * k + 15) (f (256 * k + 15) + 1)) k q (upd g 23 (g 23 + 1)) e := by
  have u : ∀ c, c ≠ 15 → upd f (256 * k + 15) (f (256 * k + 15) + 1) (256 * k + c) = f (256 * k + c) := fun c a => pk_un (by omega)
  have hl : T_last (upd f (256 * k + 15) (f (256 * k + 15) + 1)) k = T_last f k := by unfold T_last; rw [u 11 (by omega)]
  unfold rC at *
  rw [u 4 (by omega), u 5 (by omega), u 12 (by omega), u 14 (by omega), u 16 (by omega), u 17 (by omega), u 18 (by omega), u 26 (by omega), hl, pk_us]
  obtain ⟨a1, a2, a3, a4, a5, a6, a7, a8⟩ := h
  refine ⟨a1, a2, fun j b c => ?_, a4, a5, a6, by rw [a7]; rfl, a8⟩
  rw [Nat.add_assoc, u _ (by omega), ← Nat.add_assoc]
  exact a3 j b c
/-- a node that stays in the frame phase as a receiver -/
theorem sim_keep {F : Nat → Int32} {k q b ln : Nat} {cu : Option Nat} {g s e : Nat → Int32} {W R V : List pqE} {C : List (Int32 × Nat)} {ad : Nat → Int32 × Int32} (hK : relK F k q (4, cu, g, s, e, W, R, C, ad) V) (hg : g 2 = 0) (h0 : F (256 * k) = 4) (h1 : F (256 * k + 1) = 0) (h2 : F (256 * k + 2) = g 5) (hF : rF F k V none) (hS : rS F k s b ln) (hT : rT F k s b ln) : relV F k q (4, cu, g, s, e, W, R, C, ad) V := by
  refine ⟨hK, ?_, ⟨⟨h0, by show 4 < 10; omega⟩, Or.inl hg, ?_, h2, fun z => absurd z (by show ¬ 4 = 7; omega), fun z => absurd z (by show ¬ 4 = 1; omega), fun z => absurd z (by show ¬ 4 = 8; omega)⟩, fun _ => ⟨b, ln, hS, hT, fun z => absurd hg z⟩⟩
  · have e : nSnd (4, cu, g, s, e, W, R, C, ad) = none := if_neg (fun z => z.2 hg)
    rw [e]
    exact hF
  · show F (256 * k + 1) = if 4 ≤ 4 ∧ 4 ≤ 8 then g 2 else 0
    rw [h1, hg]; rfl
theorem acR_n {f : Nat → Int32} {k n p : Nat} (h5 : f (256 * k + 5) = nI n) (hn : n ≤ 255) (hp : f 1025 = nI p) (h8 : 8 ≤ p) (h128 : p ≤ 128) : ∃ m, m ≤ 255 ∧ T_acR f k = nI m ∧ (if nI n < nI p then maxI 0 (nI n - 1) else nI p - 8) = nI m := by
  unfold T_acR
  rw [h5, hp]
  have hc : (nI n < nI p) ↔ n < p := nI_ltI (by omega) (by omega)
  by_cases q : n < p
  · refine ⟨n - 1, by omega, ?_, ?_⟩
    · rw [if_pos (hc.mpr q)]
      by_cases z : n = 0
      · subst z; rfl
      · rw [if_neg (nI_nle (by omega) (by omega))]
        exact nI_s (b := 1) (by omega)
    · rw [if_pos (hc.mpr q)]; exact maxI_dec (by omega)
  · refine ⟨p - 8, by omega, ?_, ?_⟩
    · rw [if_neg (fun z => q (hc.mp z))]; exact nI_s (b := 8) (by omega)
    · rw [if_neg (fun z => q (hc.mp z))]; exact nI_s (b := 8) (by omega)
theorem sim_accept {f : Nat → Int32} {k q b ln y p : Nat} {x : NS} {V : List pqE} {pl : Int32} (hk : k < 4) (hq : q < 1000000) (h : relV f k q x V) (hp : x.ph = 4) (hg : x.g 2 = 0) (hS : rS f k x.s b ln) (hT : rT f k x.s b ln) (hb : b = 34 + byS x.s ln) (hpl : f 1025 = pl) (hpn : pl = nI p) (h8 : 8 ≤ p) (h128 : p ≤ 128) (hy : ∀ e ∈ x.W, e.1 ≠ y) :
    ∃ V', relV (T_acc f k x.C.length V.length x.R.length ln) k (q + 1) (x.ph, x.cu, cAccG x.g x.s pl x.W x.R x.C, x.s, x.e, cAccW x.g x.s x.W x.C x.ad y, cAccR x.g x.s x.R x.C y, x.C, x.ad) V' := by
  have hby := byS_le (s := x.s) hS.1.2.2
  have hP := h.2.2.1
  obtain ⟨c1, c2, c3, c4, c5, c6, c7⟩ := h.1
  have hf1 : f (256 * k + 1) = 0 := by rw [hP.f1 (by omega) (by omega), hg]
  have hnone : nSnd x = none := if_neg (fun z => z.2 hg)
  have hfl : rF f k V none := by have := h.2.1; rw [hnone] at this; exact this
  have hVW : V.length = x.W.length := c3.1.length_eq
  have hyV : ∀ e ∈ V, e.1 ≠ y := fun e he => hy e (c3.1.mem_iff.mp he)
  have h0 : f (256 * k) = 4 := by rw [hP.1.1, hp]; rfl
  have h2 : f (256 * k + 2) = x.g 5 := hP.2.2.2.1
  obtain ⟨n5, n51, n52⟩ := c1.2.1.1
  have g4 : x.g 4 = nI n5 := c1.2.1.2.symm.trans n51
  obtain ⟨m, m1, m2, m3⟩ := acR_n (k := k) n51 n52 (hpl.trans hpn) h8 h128
  have hc0 : cAcc0 x.g pl = upd x.g 4 (nI m) := by
    unfold cAcc0
    rw [g4, hpn, m3]
  obtain ⟨f1, e1⟩ : ∃ z, z = upd f (256 * k + 5) (nI m) := ⟨_, rfl⟩
  have u : ∀ c, c ≠ 5 → f1 (256 * k + c) = f (256 * k + c) := fun c a => by rw [e1]; exact pk_un (by omega)
  have ug : ∀ c, 1024 ≤ c → f1 c = f c := fun c a => by rw [e1]; exact pk_un (by omega)
  have hC1 : rC f1 k q (cAcc0 x.g pl) x.e := by rw [hc0, e1]; exact c1.re m1
  have h3' : x.s 3 = smT f1 (256 * k + 1 + 90) 11 := by
    rw [hS.2.2.2.2.2.1, show min (b - 1) 11 = 11 by omega, show 256 * k + 1 + 90 = 256 * k + 91 by omega]
    exact (smT_c (fun j hj => by rw [Nat.add_assoc]; exact u _ (by omega))).symm
  have h102 : f1 (256 * k + 102) = x.s 4 := by
    have := hS.2.2.2.2.2.2.1
    rw [if_pos (by omega)] at this
    rw [u 102 (by omega)]; exact this.symm
  have hs4 := hS.s4
  have h5' := hS.2.2.2.2.2.2.2.2.1 (by omega)
  have eT : T_acc f k x.C.length V.length x.R.length ln = if (x.s 3 ^^^ f1 (256 * k + 17)) &&& f1 (256 * k + 16) = 0 then (if f1 (256 * k + 102) = 1 ∧ ¬ ansT f1 k (x.s 3) x.C.length 0 < 0 then (if V.length < 4 then T_waits f1 k (x.s 3) 0 (f1 (256 * k + 3 * (ansT f1 k (x.s 3) x.C.length 0).toNatClampNeg + 75)) (f1 (256 * k + 3 * (ansT f1 k (x.s 3) x.C.length 0).toNatClampNeg + 76)) V.length else f1) else T_got f1 k x.R.length ln (x.s 3)) else f1 := by
    unfold T_acc
    rw [m2, ← e1]
    simp only [← h3']
  have hit : ((x.s 3 ^^^ f1 (256 * k + 17)) &&& f1 (256 * k + 16) = 0) ↔ cHit x.g x.s := by
    show _ ↔ (x.s 3 ^^^ x.g 16) &&& x.g 15 = 0
    rw [u 17 (by omega), u 16 (by omega), c1.2.2.2.2.2.2.2.2.1, c1.2.2.2.2.2.2.2.1]
  have hW1 : rW f1 k q (cAcc0 x.g pl) x.W V := by rw [hc0]; exact c3.fr (fun c hc => u c (by omega))
  have hR1 : rR f1 k x.R := c4.fr (fun c hc => u c (by omega))
  have hA1 : rA f1 k x.C x.ad := c5.fr (fun c hc => u c (by omega))
  have h13 : f1 (256 * k + 13) = cAcc0 x.g pl 21 := by rw [hc0, u 13 (by omega)]; exact c2
  have h19 : ∃ n, n ≤ 66 ∧ f1 (256 * k + 19) = nI n := by rw [u 19 (by omega)]; exact c7
  have hF1 : rF f1 k V none := hfl.fr c3.2.2.2.2.1 (fun c hc => u c (by omega))
  have hS1 : rS f1 k x.s b ln := hS.fr (fun c hc => u c (by omega))
  have hT1 : rT f1 k x.s b ln := hT.fr (u 22 (by omega))
  have g02 : cAcc0 x.g pl 2 = 0 := by rw [hc0]; exact hg
  have g05 : cAcc0 x.g pl 5 = x.g 5 := by rw [hc0]; rfl
  have k0 : f1 (256 * k) = 4 := (u 0 (by omega)).trans h0
  have k1 : f1 (256 * k + 1) = 0 := (u 1 (by omega)).trans hf1
  have k2 : f1 (256 * k + 2) = cAcc0 x.g pl 5 := by rw [g05]; exact (u 2 (by omega)).trans h2
  have plain : relV f1 k (q + 1) (4, x.cu, cAcc0 x.g pl, x.s, x.e, x.W, x.R, x.C, x.ad) V := (sim_keep ⟨hC1, h13, hW1, hR1, hA1, hs4, h19⟩ g02 k0 k1 k2 hF1 hS1 hT1).mono (by omega)
  rw [eT, hp]
  unfold cAccG cAccW cAccR
  by_cases ht : cHit x.g x.s
  · simp only [if_pos ht, if_pos (hit.mpr ht)]
    by_cases ha : cAccA x.s x.C = none
    · have hno : ¬ (f1 (256 * k + 102) = 1 ∧ ¬ ansT f1 k (x.s 3) x.C.length 0 < 0) := by
        rintro ⟨z1, z2⟩
        rw [h102] at z1
        unfold cAccA at ha
        rw [if_neg (by rw [z1]; decide)] at ha
        rcases hA1.ans (id := x.s 3) with ⟨-, w⟩ | ⟨p', i, w, -⟩
        · exact z2 w
        · rw [ha] at w; cases w
      simp only [if_pos ha, if_neg hno]
      by_cases h6 : x.R.length = 6
      · simp only [if_pos h6]
        have eg : T_got f1 k x.R.length ln (x.s 3) = upd f1 (256 * k + 15) (f1 (256 * k + 15) + 1) := by unfold T_got; rw [if_pos h6]
        rw [eg]
        have v : ∀ c, c ≠ 15 → upd f1 (256 * k + 15) (f1 (256 * k + 15) + 1) (256 * k + c) = f1 (256 * k + c) := fun c a => pk_un (by omega)
        have hC2 := hC1.ov
        have e23 : cAcc0 x.g pl 23 = x.g 23 := by rw [hc0]; rfl
        rw [e23] at hC2
        refine ⟨V, (sim_keep ⟨hC2, (v 13 (by omega)).trans h13, hW1.fr (fun c hc => v c (by omega)), hR1.fr (fun c hc => v c (by omega)), hA1.fr (fun c hc => v c (by omega)), hs4, by rw [v 19 (by omega)]; exact h19⟩ g02 ((v 0 (by omega)).trans k0) ((v 1 (by omega)).trans k1) ((v 2 (by omega)).trans k2) (hF1.fr c3.2.2.2.2.1 (fun c hc => v c (by omega))) (hS1.fr (fun c hc => v c (by omega))) (hT1.fr (v 22 (by omega)))).mono (by omega)⟩
      · simp only [if_neg h6]
        have h6s : x.s 6 = if x.s 4 = 1 then 0 else smT f1 (256 * k + 109) (8 * ln) := by
          rw [hS1.2.2.2.2.2.2.2.2.2.1]
          unfold byS at hb ⊢
          rcases hs4 with z | z
          · rw [if_neg (show ¬ x.s 4 = 1 by rw [z]; decide), if_pos z]
            rw [if_pos z] at hb
            rw [show min (b - 19) (8 * ln) = 8 * ln by omega]
          · rw [if_pos z, if_neg (show ¬ x.s 4 = 0 by rw [z]; decide), Nat.min_zero]; rfl
        obtain ⟨r1, r2, -⟩ := sim_got (y := y) (id := x.s 3) hk hR1 hs4 h102 h5' h6s hS.1.2.2 h6
        have v : ∀ c, c ≠ 24 → (c < 50 ∨ 74 ≤ c) → T_got f1 k x.R.length ln (x.s 3) (256 * k + c) = f1 (256 * k + c) := r2
        refine ⟨V, (sim_keep (q := q) (cu := x.cu) (g := cAcc0 x.g pl) (s := x.s) (e := x.e) (W := x.W) (R := x.R ++ [(y, (x.s 3, decide (¬ x.s 4 = 0), x.s 5, x.s 6, 0))]) (C := x.C) (ad := x.ad) ⟨hC1.fr (fun c hc => v c (by omega) (by omega)), (v 13 (by omega) (by omega)).trans h13, hW1.fr (fun c hc => v c (by omega) (by omega)), r1, hA1.fr (fun c hc => v c (by omega) (by omega)), hs4, by rw [v 19 (by omega) (by omega)]; exact h19⟩ g02 ((v 0 (by omega) (by omega)).trans k0) ((v 1 (by omega) (by omega)).trans k1) ((v 2 (by omega) (by omega)).trans k2) (hF1.fr c3.2.2.2.2.1 (fun c hc => v c (by omega) (by omega))) (hS1.fr (fun c hc => v c (by omega) (by omega))) (hT1.fr (v 22 (by omega) (by omega)))).mono (by omega)⟩
    · have hn0 : ¬ x.s 4 = 0 := fun z => ha (if_pos z)
      have h41 : x.s 4 = 1 := hs4.resolve_left hn0
      have hAA : cAccA x.s x.C = tget x.C (x.s 3) := if_neg hn0
      rcases hA1.ans (id := x.s 3) with ⟨w, -⟩ | ⟨p', i, w1, w2, w3, w4, -, w5, w6, w7⟩
      · exact absurd (hAA.trans w) ha
      · have hgd : (cAccA x.s x.C).getD 0 = p' := by rw [hAA, w1]; rfl
        have hyes : f1 (256 * k + 102) = 1 ∧ ¬ ansT f1 k (x.s 3) x.C.length 0 < 0 := ⟨h102.trans h41, w4⟩
        have hi : (ansT f1 k (x.s 3) x.C.length 0).toNatClampNeg = i := by rw [w3]; exact nI_clamp (by have := hA1.2.1; omega)
        simp only [if_neg ha, if_pos hyes, hgd, hi, w5, w6]
        by_cases h4 : x.W.length < 4
        · simp only [if_pos h4, if_pos (show V.length < 4 by omega)]
          have e17 : cAcc0 x.g pl 17 = x.g 17 := by rw [hc0]; rfl
          obtain ⟨V', z1, z2, z3, z4, z5, z6⟩ := sim_waits (y := y) (id := x.s 3) (rm := false) (ln := (x.ad p').1) (da := (x.ad p').2) hk hq hW1 hF1 (by omega) hyV (fun a z => by cases z) (hA1.2.2.2.2.2.2 _ w7)
          have v : ∀ c, c < 256 → c ≠ 23 → (c < 30 ∨ 50 ≤ c) → T_waits f1 k (x.s 3) 0 (x.ad p').1 (x.ad p').2 V.length (256 * k + c) = f1 (256 * k + c) := z5
          rw [e17] at z1
          refine ⟨V', sim_keep ⟨(hC1.fr (fun c hc => v c (by omega) (by omega) (by omega))).mono (by omega), (v 13 (by omega) (by omega) (by omega)).trans h13, z1, hR1.fr (fun c hc => v c (by omega) (by omega) (by omega)), hA1.fr (fun c hc => v c (by omega) (by omega) (by omega)), hs4, by rw [v 19 (by omega) (by omega) (by omega)]; exact h19⟩ g02 ((v 0 (by omega) (by omega) (by omega)).trans k0) ((v 1 (by omega) (by omega) (by omega)).trans k1) ((v 2 (by omega) (by omega) (by omega)).trans k2) z2 (hS1.fr (fun c hc => v c (by omega) (by omega) (by omega))) (hT1.fr (v 22 (by omega) (by omega) (by omega)))⟩
        · simp only [if_neg h4, if_neg (show ¬ V.length < 4 by omega)]
          exact ⟨V, plain⟩
  · simp only [if_neg ht, if_neg (fun z => ht (hit.mp z))]
    exact ⟨V, plain⟩
theorem nSx_eq {f : Nat → Int32} {k i : Nat} (hi : i < 4) (h1 : ¬ f (256 * k + 5 * i + 34) = 0) (h0 : ∀ j, j < i → f (256 * k + 5 * j + 34) = 0) : nSx f k = i := by
  unfold nSx
  have e0 : ∀ j, 256 * k + 5 * j + 34 = 256 * k + (5 * j + 34) := fun j => by omega
  rcases (show i = 0 ∨ i = 1 ∨ i = 2 ∨ i = 3 by omega) with rfl | rfl | rfl | rfl
  · rw [if_pos (show ¬ f (256 * k + 34) = 0 from h1)]
  · rw [if_neg (fun z => z (show f (256 * k + 34) = 0 from h0 0 (by omega))), if_pos (show ¬ f (256 * k + 39) = 0 from h1)]
  · rw [if_neg (fun z => z (show f (256 * k + 34) = 0 from h0 0 (by omega))), if_neg (fun z => z (show f (256 * k + 39) = 0 from h0 1 (by omega))), if_pos (show ¬ f (256 * k + 44) = 0 from h1)]
  · rw [if_neg (fun z => z (show f (256 * k + 34) = 0 from h0 0 (by omega))), if_neg (fun z => z (show f (256 * k + 39) = 0 from h0 1 (by omega))), if_neg (fun z => z (show f (256 * k + 44) = 0 from h0 2 (by omega)))]
/-- which of the waiting frames is being sent -/
theorem rF.sx {f : Nat → Int32} {k ca : Nat} {V : List pqE} {d : frD} (h : rF f k V (some ca)) (hn : (V.map Prod.fst).Nodup) (hV : V.length ≤ 4) (hm : (ca, d) ∈ V) : ∃ i, i < V.length ∧ V[i]? = some (ca, d) ∧ nSx f k = i ∧ ¬ f (256 * k + 5 * i + 34) = 0 := by
  obtain ⟨i, hi⟩ := List.getElem?_of_mem hm
  have hl : i < V.length := (List.getElem?_eq_some_iff.mp hi).1
  have h1 : ¬ f (256 * k + 5 * i + 34) = 0 := by rw [h i _ hi, if_pos rfl]; decide
  refine ⟨i, hl, hi, nSx_eq (by omega) h1 (fun j hj => ?_), h1⟩
  have hj2 : V[j]? = some V[j] := List.getElem?_eq_getElem (by omega)
  rw [h j _ hj2, if_neg (fun z => nd_ne hn hi hj2 (by omega) (Option.some.inj z))]
/-- a frame has been sent -/
theorem sim_finT {f : Nat → Int32} {k q ca : Nat} {x : NS} {V : List pqE} {d : frD} (hk : k < 4) (hK : relK f k q x V) (hq : q < 1000000) (hf1 : f (256 * k + 1) = 1) (hg : x.g 2 = 1) (hF : rF f k V (some ca)) (hm : (ca, d) ∈ V) (sm : Int32) (hs : ¬ sm = 0) :
    ∃ V', relV (T_ends f k sm (nSx f k) (V.length - 1)) k (q + 1) (8, x.cu, cFinG x.g, x.s, x.e, cFinW x.g ca x.W, x.R, x.C, x.ad) V' := by
  obtain ⟨c1, c2, c3, c4, c5, c6, c7⟩ := hK
  obtain ⟨i, i1, i2, i3, -⟩ := hF.sx c3.2.2.2.1 c3.2.2.2.2.1 hm
  have hV4 := c3.2.2.2.2.1
  have n0 : ¬ x.g 2 = 0 := by rw [hg]; decide
  have hfe := filt_erase V i d c3.2.2.2.1 i2
  obtain ⟨p1, p2⟩ := pqFilt_0 (P := fun e => decide (¬ e.1 = ca)) (by rw [← c3.1.length_eq]; exact hV4) c3.1 c3.2.1
  rw [hfe] at p1
  rw [i3]
  obtain ⟨U, eU⟩ : ∃ z, z = T_unw f k i (V.length - 1) := ⟨_, rfl⟩
  have hU : rW U k q x.g (pqFilt (fun e => decide (¬ e.1 = ca)) [] x.W) (V.eraseIdx i) := by rw [eU]; exact c3.erase i1 p1 p2
  have uo : ∀ c, c ≠ 23 → (c < 30 ∨ 50 ≤ c) → U (256 * k + c) = f (256 * k + c) := fun c a b => by rw [eU]; exact unw_o (by omega) (by omega) a b
  obtain ⟨F, eF⟩ : ∃ z, z = upd (upd U (256 * k + 14) (U (256 * k + 14) + 1)) (256 * k + 4) (upd U (256 * k + 14) (U (256 * k + 14) + 1) (256 * k + 4) - (if upd U (256 * k + 14) (U (256 * k + 14) + 1) (256 * k + 4) ≤ 0 then 0 else 1)) := ⟨_, rfl⟩
  have eT : T_ends f k sm i (V.length - 1) = T_goes F k 8 := by
    unfold T_ends
    rw [if_neg hs, if_pos hf1, eF, eU]
  obtain ⟨⟨⟨n4, a1, a2⟩, a3⟩, b1, b2, b3, b4, ⟨⟨m, d1, d2⟩, d3⟩, b5, b6, b7, b8, b9, b10⟩ := c1
  have r4 : F (256 * k + 4) = nI (n4 - 1) := by
    rw [eF, pk_us, pk_un (by omega), uo 4 (by omega) (by omega), a1]
    by_cases z : n4 = 0
    · subst z; rfl
    · rw [if_neg (nI_nle (by omega) (by omega))]; exact nI_s (b := 1) (by omega)
  have r14 : F (256 * k + 14) = nI (m + 1) := by rw [eF, pk_un (by omega), pk_us, uo 14 (by omega) (by omega), d1]; exact nI_1 m
  have ro : ∀ c, c ≠ 4 → c ≠ 14 → F (256 * k + c) = U (256 * k + c) := fun c a b => by rw [eF, pk_un (by omega), pk_un (by omega)]
  have roo : ∀ c, c ≠ 4 → c ≠ 14 → c ≠ 23 → (c < 30 ∨ 50 ≤ c) → F (256 * k + c) = f (256 * k + c) := fun c a b e d => (ro c a b).trans (uo c e d)
  have g3 : x.g 3 = nI n4 := a3.symm.trans a1
  have hG : cFinG x.g = upd (upd (upd x.g 22 (nI (m + 1))) 3 (nI (n4 - 1))) 5 0 := by
    unfold cFinG
    rw [if_neg n0, g3, maxI_dec (by omega), show x.g 22 = nI m from d3.symm.trans d1, nI_1]
  have hW : cFinW x.g ca x.W = pqFilt (fun e => decide (¬ e.1 = ca)) [] x.W := if_neg n0
  rw [eT, hG, hW]
  refine ⟨V.eraseIdx i, sim_goes (f := F) (x := (8, x.cu, upd (upd (upd x.g 22 (nI (m + 1))) 3 (nI (n4 - 1))) 5 0, x.s, x.e, pqFilt (fun e => decide (¬ e.1 = ca)) [] x.W, x.R, x.C, x.ad)) ⟨?_, ?_, ?_, c4.fr (fun c hc => roo c (by omega) (by omega) (by omega) (by omega)), c5.fr (fun c hc => roo c (by omega) (by omega) (by omega) (by omega)), c6, by rw [roo 19 (by omega) (by omega) (by omega) (by omega)]; exact c7⟩ (by show 8 < 10; omega) (by show 8 ≠ 4; omega) (by show 8 ≠ 6; omega) rfl (fun _ => ?_) (Or.inr hg) (fun z => absurd z (by show ¬ 8 = 1; omega)) (fun z => absurd z (by show ¬ 8 = 7; omega))⟩
  · have hl : T_last F k = T_last f k := by unfold T_last; rw [roo 11 (by omega) (by omega) (by omega) (by omega)]
    refine ⟨⟨⟨n4 - 1, r4, by omega⟩, r4⟩, by rw [roo 5 (by omega) (by omega) (by omega) (by omega)]; exact b1, fun j y1 y2 => ?_, hl.trans b3, by rw [roo 12 (by omega) (by omega) (by omega) (by omega)]; exact b4, ⟨⟨m + 1, r14, by omega⟩, r14⟩, by rw [roo 15 (by omega) (by omega) (by omega) (by omega)]; exact b5, by rw [roo 16 (by omega) (by omega) (by omega) (by omega)]; exact b6, by rw [roo 17 (by omega) (by omega) (by omega) (by omega)]; exact b7, by rw [roo 18 (by omega) (by omega) (by omega) (by omega)]; exact b8, b9, by rw [roo 26 (by omega) (by omega) (by omega) (by omega)]; exact b10⟩
    rw [Nat.add_assoc, roo _ (by omega) (by omega) (by omega) (by omega), ← Nat.add_assoc]
    exact b2 j y1 y2
  · rw [roo 13 (by omega) (by omega) (by omega) (by omega)]; exact c2
  · exact (hU.fr (fun c hc => ro c (by omega) (by omega))).mono (by omega)
  · rw [roo 1 (by omega) (by omega) (by omega) (by omega), hf1]; exact hg.symm
