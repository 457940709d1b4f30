/-! what the reference's small steps write, and the component's beside them -/
set_option maxRecDepth 100000
theorem goes_ge {f : Nat → Int32} {k c : Nat} {x : Int32} (hc : 256 * k + 256 ≤ c) : T_goes f k x c = f c := loc_goes loc.rf c (Or.inr hc)
theorem goes_0 {f : Nat → Int32} {k : Nat} {x : Int32} : T_goes f k x (256 * k) = x := by
  unfold T_goes T_rel
  by_cases h8 : 4 ≤ x ∧ x ≤ 8 <;> by_cases h4 : x = 4 <;> simp (decide := true) only [h8, h4, and_self, if_true, if_false, ru, ru0, r0u, r00]
theorem goes_1 {f : Nat → Int32} {k : Nat} {x : Int32} : T_goes f k x (256 * k + 1) = if 4 ≤ x ∧ x ≤ 8 then f (256 * k + 1) else 0 := by
  unfold T_goes T_rel
  by_cases h8 : 4 ≤ x ∧ x ≤ 8 <;> by_cases h4 : x = 4 <;> simp (decide := true) only [h8, h4, and_self, if_true, if_false, ru, ru0, r0u, r00]
theorem goes_2 {f : Nat → Int32} {k : Nat} {x : Int32} : T_goes f k x (256 * k + 2) = 0 := by
  unfold T_goes T_rel
  by_cases h8 : 4 ≤ x ∧ x ≤ 8 <;> by_cases h4 : x = 4 <;> simp (decide := true) only [h8, h4, and_self, if_true, if_false, ru, ru0, r0u, r00]
theorem goes_3 {f : Nat → Int32} {k : Nat} {x : Int32} : T_goes f k x (256 * k + 3) = 0 := by
  unfold T_goes T_rel
  by_cases h8 : 4 ≤ x ∧ x ≤ 8 <;> by_cases h4 : x = 4 <;> simp (decide := true) only [h8, h4, and_self, if_true, if_false, ru, ru0, r0u, r00]
theorem goes_13 {f : Nat → Int32} {k : Nat} {x : Int32} : T_goes f k x (256 * k + 13) = f (256 * k + 13) + (if x = 6 then 1 else 0) := by
  unfold T_goes T_rel
  by_cases h8 : 4 ≤ x ∧ x ≤ 8 <;> by_cases h4 : x = 4 <;> simp (decide := true) only [h8, h4, and_self, if_true, if_false, ru, ru0, r0u, r00]
theorem goes_f {f : Nat → Int32} {k c : Nat} {x : Int32} (hx : ¬ x = 4) (hc : c = 34 ∨ c = 39 ∨ c = 44 ∨ c = 49) : T_goes f k x (256 * k + c) = 0 := by
  unfold T_goes T_rel
  rcases hc with rfl | rfl | rfl | rfl <;> by_cases h8 : 4 ≤ x ∧ x ≤ 8 <;> simp (decide := true) only [h8, hx, and_self, if_true, if_false, ru, ru0, r0u, r00]
theorem goes_o {f : Nat → Int32} {k c : Nat} {x : Int32} (h : 4 ≤ c) (h1 : c ≠ 13) (h2 : c ≠ 34) (h3 : c ≠ 39) (h4 : c ≠ 44) (h5 : c ≠ 49) : T_goes f k x (256 * k + c) = f (256 * k + c) := by
  have h6 : c ≠ 0 := by omega
  have h7 : c ≠ 1 := by omega
  have h8 : c ≠ 2 := by omega
  have h9 : c ≠ 3 := by omega
  unfold T_goes T_rel
  by_cases q8 : 4 ≤ x ∧ x ≤ 8 <;> by_cases q4 : x = 4 <;> simp (decide := true) only [q8, q4, and_self, if_true, if_false, ru, ru0, r0u, r00, h1, h2, h3, h4, h5, h6, h7, h8, h9]
theorem rel_f {f : Nat → Int32} {k c : Nat} (hc : c = 34 ∨ c = 39 ∨ c = 44 ∨ c = 49) : T_rel f k (256 * k + c) = 0 := by
  unfold T_rel
  rcases hc with rfl | rfl | rfl | rfl <;> simp (decide := true) only [if_true, if_false, ru]
theorem rel_o {f : Nat → Int32} {k c : Nat} (h2 : c ≠ 34) (h3 : c ≠ 39) (h4 : c ≠ 44) (h5 : c ≠ 49) : T_rel f k (256 * k + c) = f (256 * k + c) := by
  unfold T_rel
  simp only [ru, h2, h3, h4, h5, if_false]
/-- the world behind 'enter', away from the frame phase -/
theorem sim_goes {f : Nat → Int32} {k q : Nat} {x : NS} {V : List pqE} (hK : relK f k q x V) (hp : x.ph < 10) (hp4 : x.ph ≠ 4) (hp6 : x.ph ≠ 6) (h5 : x.g 5 = 0) (h1 : 4 ≤ x.ph ∧ x.ph ≤ 8 → f (256 * k + 1) = x.g 2) (hg2 : x.g 2 = 0 ∨ x.g 2 = 1) (h6 : x.ph = 1 → x.g 6 = 0) (h8 : x.ph = 7 → x.g 8 = 0) : relV (T_goes f k (nI x.ph)) k q x V := by
  have n4 : ¬ nI x.ph = 4 := fun z => hp4 ((nI_eq (by omega) (by decide)).mp (z.trans (show (4 : Int32) = nI 4 from rfl)))
  have n6 : ¬ nI x.ph = 6 := fun z => hp6 ((nI_eq (by omega) (by decide)).mp (z.trans (show (6 : Int32) = nI 6 from rfl)))
  have h48 : (4 ≤ nI x.ph ∧ nI x.ph ≤ 8) ↔ (4 ≤ x.ph ∧ x.ph ≤ 8) := by
    have a1 : (4 ≤ nI x.ph) ↔ 4 ≤ x.ph := nI_leI (a := 4) (by decide) (by omega)
    have a2 : (nI x.ph ≤ 8) ↔ x.ph ≤ 8 := nI_leI (b := 8) (by omega) (by decide)
    rw [a1, a2]
  have e13 : T_goes f k (nI x.ph) (256 * k + 13) = f (256 * k + 13) := by rw [goes_13, if_neg n6]; exact Int32.add_zero _
  refine ⟨hK.fr (fun c hc => ?_), ?_, ⟨⟨goes_0, hp⟩, hg2, ?_, by rw [goes_2, h5], fun q => ⟨by rw [goes_3, h8 q], 0, by omega, h5⟩, fun q => by rw [goes_3, h6 q], fun _ => ⟨0, by omega, h5⟩⟩, fun q => absurd q hp4⟩
  · by_cases q : c = 13
    · subst q; exact e13
    · exact goes_o (by omega) q (by omega) (by omega) (by omega) (by omega)
  · have e : nSnd x = none := if_neg (fun z => hp4 z.1)
    rw [e]
    exact rF.none hK.2.2.1.2.2.2.2.1 (fun c hc => goes_f n4 hc)
  · rw [goes_1]
    by_cases q : 4 ≤ x.ph ∧ x.ph ≤ 8
    · rw [if_pos (h48.mpr q), if_pos q]; exact h1 q
    · rw [if_neg (fun z => q (h48.mp z)), if_neg q]
/-- an overload begins -/
theorem sim_over {f : Nat → Int32} {k q : Nat} {x : NS} {V : List pqE} (hK : relK f k q x V) (h1 : f (256 * k + 1) = x.g 2) (hg2 : x.g 2 = 0 ∨ x.g 2 = 1) : relV (T_goes f k 6) k q (6, x.cu, cOver x.g, x.s, x.e, x.W, x.R, x.C, x.ad) V := by
  obtain ⟨c1, c2, c3, c4, c5, c6, c7⟩ := hK
  have o : ∀ c, 4 ≤ c → c ≠ 13 → c ≠ 34 → c ≠ 39 → c ≠ 44 → c ≠ 49 → T_goes f k 6 (256 * k + c) = f (256 * k + c) := fun c a1 a2 a3 a4 a5 a6 => goes_o a1 a2 a3 a4 a5 a6
  refine ⟨⟨c1.fr (fun c hc => o c (by omega) (by omega) (by omega) (by omega) (by omega) (by omega)), ?_, c3.fr (fun c hc => o c (by omega) (by omega) (by omega) (by omega) (by omega) (by omega)), c4.fr (fun c hc => o c (by omega) (by omega) (by omega) (by omega) (by omega) (by omega)), c5.fr (fun c hc => o c (by omega) (by omega) (by omega) (by omega) (by omega) (by omega)), c6, ?_⟩, ?_, ⟨⟨goes_0, by show 6 < 10; omega⟩, hg2, ?_, goes_2, fun z => absurd z (by show ¬ 6 = 7; omega), fun z => absurd z (by show ¬ 6 = 1; omega), fun z => absurd z (by show ¬ 6 = 8; omega)⟩, fun z => absurd z (by show ¬ 6 = 4; omega)⟩
  · show T_goes f k 6 (256 * k + 13) = x.g 21 + 1
    rw [goes_13, if_pos rfl, c2]
  · obtain ⟨n, a1, a2⟩ := c7
    exact ⟨n, a1, by rw [o 19 (by omega) (by omega) (by omega) (by omega) (by omega) (by omega)]; exact a2⟩
  · exact rF.none c3.2.2.2.2.1 (fun c hc => goes_f (by decide) hc)
  · show T_goes f k 6 (256 * k + 1) = x.g 2
    rw [goes_1, if_pos (by decide)]; exact h1
/-- the transmitter's or the receiver's counter behind an error -/
def eTe (f : Nat → Int32) (k kd : Nat) : Int32 := if f (256 * k + 1) = 1 then (if kd = 5 ∧ (f 1025 ≤ f (256 * k + 4) ∨ f 1025 ≤ f (256 * k + 5)) then f (256 * k + 4) else f (256 * k + 4) + 8) else f (256 * k + 4)
def eRe (f : Nat → Int32) (k : Nat) : Int32 := if f (256 * k + 1) = 1 then f (256 * k + 5) else (if 255 < f (256 * k + 5) + 1 then 255 else f (256 * k + 5) + 1)
def eF2 (f : Nat → Int32) (k kd : Nat) : Nat → Int32 := upd (upd f (256 * k + kd + 5) (f (256 * k + kd + 5) + 1)) (256 * k + 11) (nI kd)
def eF3 (F : Nat → Int32) (k kd : Nat) : Nat → Int32 := if F (256 * k + 1) = 1 then (if kd = 5 ∧ (F 1025 ≤ F (256 * k + 4) ∨ F 1025 ≤ F (256 * k + 5)) then F else upd F (256 * k + 4) (F (256 * k + 4) + 8)) else T_recv F k 1
theorem errs_eF {f : Nat → Int32} {k kd : Nat} : T_errs f k kd = if eF3 (eF2 f k kd) k kd 1026 ≤ eF3 (eF2 f k kd) k kd (256 * k + 4) then T_goes (eF3 (eF2 f k kd) k kd) k 1 else upd (T_goes (eF3 (eF2 f k kd) k kd) k 5) (256 * k + 18) (if T_goes (eF3 (eF2 f k kd) k kd) k 5 1025 ≤ T_goes (eF3 (eF2 f k kd) k kd) k 5 (256 * k + 4) ∨ T_goes (eF3 (eF2 f k kd) k kd) k 5 1025 ≤ T_goes (eF3 (eF2 f k kd) k kd) k 5 (256 * k + 5) then 0 else 1) := rfl
theorem eF_rd {f : Nat → Int32} {k kd : Nat} (hk : k < 4) (h1 : 1 ≤ kd) (h5 : kd ≤ 5) : ∃ F, F = eF3 (eF2 f k kd) k kd ∧ F (256 * k + 4) = eTe f k kd ∧ F (256 * k + 5) = eRe f k ∧ F (256 * k + kd + 5) = f (256 * k + kd + 5) + 1 ∧ F (256 * k + 11) = nI kd ∧ (∀ c, c ≠ 4 → c ≠ 5 → c ≠ kd + 5 → c ≠ 11 → F (256 * k + c) = f (256 * k + c)) ∧ (∀ c, 1024 ≤ c → F c = f c) := by
  obtain ⟨f2, e2⟩ : ∃ z, z = eF2 f k kd := ⟨_, rfl⟩
  have r11 : f2 (256 * k + 11) = nI kd := by rw [e2]; exact pk_us
  have rkd : f2 (256 * k + kd + 5) = f (256 * k + kd + 5) + 1 := by rw [e2]; exact (pk_un (by omega)).trans pk_us
  have ro : ∀ c, c ≠ kd + 5 → c ≠ 11 → f2 (256 * k + c) = f (256 * k + c) := fun c a b => by rw [e2]; exact (pk_un (by omega)).trans (pk_un (by omega))
  have rg : ∀ c, 1024 ≤ c → f2 c = f c := fun c a => by rw [e2]; exact (pk_un (by omega)).trans (pk_un (by omega))
  rw [← e2]
  have r1 := ro 1 (by omega) (by omega)
  have r4 := ro 4 (by omega) (by omega)
  have r5 := ro 5 (by omega) (by omega)
  have rgp := rg 1025 (by omega)
  refine ⟨_, rfl, ?_⟩
  unfold eF3 eTe eRe
  rw [r1, r4, r5, rgp]
  by_cases hr : f (256 * k + 1) = 1
  · by_cases hp : kd = 5 ∧ (f 1025 ≤ f (256 * k + 4) ∨ f 1025 ≤ f (256 * k + 5))
    · simp only [if_pos hr, if_pos hp]
      exact ⟨r4, r5, rkd, r11, fun c _ _ a b => ro c a b, rg⟩
    · simp only [if_pos hr, if_neg hp]
      refine ⟨pk_us, (pk_un (by omega)).trans r5, (pk_un (by omega)).trans rkd, (pk_un (by omega)).trans r11, fun c a _ b d => (pk_un (by omega)).trans (ro c b d), fun c a => (pk_un (by omega)).trans (rg c a)⟩
  · simp only [if_neg hr]
    unfold T_recv
    rw [r5]
    refine ⟨(pk_un (by omega)).trans r4, pk_us, (pk_un (by omega)).trans rkd, (pk_un (by omega)).trans r11, fun c _ a b d => (pk_un (by omega)).trans (ro c b d), fun c a => (pk_un (by omega)).trans (rg c a)⟩
theorem minI_255 {y : Int32} : minI 255 y = if 255 < y then 255 else y := by
  unfold minI
  by_cases h1 : y < 255 <;> by_cases h2 : 255 < y <;> simp only [h1, h2, if_true, if_false]
  · rw [Int32.lt_iff_toInt_lt] at h1 h2; omega
  · rw [Int32.lt_iff_toInt_lt] at h1 h2
    exact Int32.toInt_inj.mp (by omega)
theorem cF2_rd {f g : Nat → Int32} {k kd : Nat} {pl : Int32} (h1 : f (256 * k + 1) = g 2) (hg2 : g 2 = 0 ∨ g 2 = 1) (h4 : f (256 * k + 4) = g 3) (h5 : f (256 * k + 5) = g 4) (hpl : f 1025 = pl) :
    cFte g kd pl = eTe f k kd ∧ cF2 g kd pl 3 = eTe f k kd ∧ cF2 g kd pl 4 = eRe f k ∧ cF2 g kd pl 19 = nI kd ∧ ∀ j, j ≠ 3 → j ≠ 4 → j ≠ 19 → cF2 g kd pl j = g j := by
  unfold cFte cF2 eTe eRe cRaise cF1
  rw [h1, h4, h5, hpl]
  rcases hg2 with hg | hg
  · have n1 : ¬ g 2 = 1 := by rw [hg]; decide
    simp only [if_pos hg, if_neg n1, minI_255]
    exact ⟨by first | rfl | trivial, by first | rfl | trivial, by first | rfl | trivial, by first | rfl | trivial, fun j a b c => (pk_un b).trans (pk_un c)⟩
  · have n0 : ¬ g 2 = 0 := by rw [hg]; decide
    have hc : (cPas (upd g 19 (nI kd)) pl = true) ↔ (pl ≤ g 3 ∨ pl ≤ g 4) := by
      show decide (pl ≤ g 3 ∨ pl ≤ g 4) = true ↔ _
      exact decide_eq_true_iff
    by_cases h55 : kd = 5
    · by_cases hp : pl ≤ g 3 ∨ pl ≤ g 4
      · simp only [if_neg n0, if_pos hg, if_pos h55, if_pos (hc.mpr hp), if_pos (And.intro h55 hp)]
        exact ⟨by first | rfl | trivial, by first | rfl | trivial, by first | rfl | trivial, by first | rfl | trivial, fun j a b c => pk_un c⟩
      · simp only [if_neg n0, if_pos hg, if_pos h55, if_neg (fun z => hp (hc.mp z)), if_neg (fun (z : kd = 5 ∧ (pl ≤ g 3 ∨ pl ≤ g 4)) => hp z.2)]
        exact ⟨by first | rfl | trivial, by first | rfl | trivial, by first | rfl | trivial, by first | rfl | trivial, fun j a b c => (pk_un a).trans (pk_un c)⟩
    · simp only [if_neg n0, if_pos hg, if_neg h55, if_neg (fun (z : kd = 5 ∧ (pl ≤ g 3 ∨ pl ≤ g 4)) => h55 z.1)]
      exact ⟨by first | rfl | trivial, by first | rfl | trivial, by first | rfl | trivial, by first | rfl | trivial, fun j a b c => (pk_un a).trans (pk_un c)⟩
/-- the cell that says whether an error flag is active -/
theorem rC.act {f : Nat → Int32} {k q : Nat} {g e : Nat → Int32} {v : Int32} (h : rC f k q g e) (hv : v = 0 ∨ v = 1) : rC (upd f (256 * k + 18) v) k q (upd g 7 v) e := by
  have u : ∀ c, c ≠ 18 → upd f (256 * k + 18) v (256 * k + c) = f (256 * k + c) := fun c a => pk_un (by omega)
  have hl : T_last (upd f (256 * k + 18) v) k = T_last f k := by unfold T_last; rw [u 11 (by omega)]
  unfold rC at *
  rw [u 4 (by omega), u 5 (by omega), u 12 (by omega), u 14 (by omega), u 15 (by omega), u 16 (by omega), u 17 (by omega), u 26 (by omega), hl, pk_us]
  obtain ⟨a1, a2, a3, a4, a5, a6, a7, a8, a9, a10, a11, a12⟩ := h
  refine ⟨a1, a2, fun j b c => ?_, a4, a5, a6, a7, a8, a9, ⟨rfl, hv⟩, a11, a12⟩
  rw [Nat.add_assoc, u _ (by omega), ← Nat.add_assoc]
  exact a3 j b c
theorem sim_errs {f : Nat → Int32} {k q kd : Nat} {x : NS} {V : List pqE} {pl ol : Int32} (hk : k < 4) (h1 : 1 ≤ kd) (h5 : kd ≤ 5) (hK : relK f k q x V) (hr : f (256 * k + 1) = x.g 2) (hg2 : x.g 2 = 0 ∨ x.g 2 = 1) (hpl : f 1025 = pl) (hol : f 1026 = ol) :
    relV (T_errs f k kd) k (q + 1) (cFailP x.g kd pl ol, x.cu, cFailG x.g kd pl ol, x.s, cFailE x.e kd, x.W, x.R, x.C, x.ad) V := by
  obtain ⟨c1, c2, c3, c4, c5, c6, c7⟩ := hK
  obtain ⟨⟨⟨n4, a1, a2⟩, a3⟩, ⟨⟨n5, b1, b2⟩, b3⟩, d1, d2, d3, ⟨⟨n14, d4, d5⟩, d6⟩, d7, d8, d9, d10, d11, d12⟩ := c1
  obtain ⟨F, eFF, E4, E5, Ek, E11, Eo, Eg⟩ := eF_rd (f := f) hk h1 h5
  obtain ⟨G0, G3, G4, G19, Go⟩ := cF2_rd (kd := kd) hr hg2 a3 b3 hpl
  have hte : ∃ n, eTe f k kd = nI n ∧ n ≤ 8 * (q + 1) := by
    unfold eTe
    rw [a1]
    split
    · split
      · exact ⟨n4, rfl, by omega⟩
      · exact ⟨n4 + 8, nI_a (b := 8) rfl, by omega⟩
    · exact ⟨n4, rfl, by omega⟩
  have hre : ∃ n, eRe f k = nI n ∧ n ≤ 255 := by
    unfold eRe
    rw [b1]
    split
    · exact ⟨n5, rfl, b2⟩
    · split
      · exact ⟨255, rfl, by omega⟩
      · rename_i z
        refine ⟨n5 + 1, nI_1 n5, ?_⟩
        rw [nI_1] at z
        have z2 := Int32.not_lt.mp z
        exact (nI_leI (b := 255) (by omega) (by decide)).mp z2
  have hC : rC F k (q + 1) (cF2 x.g kd pl) (cFailE x.e kd) := by
    refine ⟨⟨by rw [E4]; exact hte, by rw [E4, G3]⟩, ⟨by rw [E5]; exact hre, by rw [E5, G4]⟩, fun j h1j h5j => ?_, ?_, ?_, ⟨⟨n14, ?_, by omega⟩, ?_⟩, ?_, ?_, ?_, ⟨?_, ?_⟩, ?_, ⟨?_, ?_⟩⟩
    · by_cases q : j = kd
      · subst q; rw [Ek, d1 j h1j h5j]; exact (pk_us).symm
      · rw [Nat.add_assoc, Eo (j + 5) (by omega) (by omega) (by omega) (by omega), ← Nat.add_assoc, d1 j h1j h5j]; exact (pk_un q).symm
    · unfold T_last
      rw [E11, G19, if_neg (nI_ne0 (by omega) (by omega))]
    · rw [Eo 12 (by omega) (by omega) (by omega) (by omega), Go 20 (by omega) (by omega) (by omega)]; exact d3
    · rw [Eo 14 (by omega) (by omega) (by omega) (by omega)]; exact d4
    · rw [Eo 14 (by omega) (by omega) (by omega) (by omega), Go 22 (by omega) (by omega) (by omega)]; exact d6
    · rw [Eo 15 (by omega) (by omega) (by omega) (by omega), Go 23 (by omega) (by omega) (by omega)]; exact d7
    · rw [Eo 16 (by omega) (by omega) (by omega) (by omega), Go 15 (by omega) (by omega) (by omega)]; exact d8
    · rw [Eo 17 (by omega) (by omega) (by omega) (by omega), Go 16 (by omega) (by omega) (by omega)]; exact d9
    · rw [Eo 18 (by omega) (by omega) (by omega) (by omega), Go 7 (by omega) (by omega) (by omega)]; exact d10.1
    · rw [Go 7 (by omega) (by omega) (by omega)]; exact d10.2
    · rw [Go 8 (by omega) (by omega) (by omega)]; exact d11
    · rw [Eo 26 (by omega) (by omega) (by omega) (by omega), Go 9 (by omega) (by omega) (by omega)]; exact d12.1
    · rw [Go 9 (by omega) (by omega) (by omega)]; exact d12.2
  have hW : rW F k (q + 1) (cF2 x.g kd pl) x.W V := by
    obtain ⟨w1, w2, w3, w4, w5, w6, w7, w8, w9, r, w10, w11, w12⟩ := c3.fr (F := F) (fun c hc => Eo c (by omega) (by omega) (by omega) (by omega))
    exact ⟨w1, w2, w3, w4, w5, w6, w7, w8, w9, r, by rw [Go 17 (by omega) (by omega) (by omega)]; exact w10, by omega, w12⟩
  have hRR : rR F k x.R := c4.fr (fun c hc => Eo c (by omega) (by omega) (by omega) (by omega))
  have hA : rA F k x.C x.ad := c5.fr (fun c hc => Eo c (by omega) (by omega) (by omega) (by omega))
  have h13 : F (256 * k + 13) = cF2 x.g kd pl 21 := by rw [Eo 13 (by omega) (by omega) (by omega) (by omega), Go 21 (by omega) (by omega) (by omega)]; exact c2
  have h19 : ∃ n, n ≤ 66 ∧ F (256 * k + 19) = nI n := by rw [Eo 19 (by omega) (by omega) (by omega) (by omega)]; exact c7
  have hF1 : F (256 * k + 1) = cF2 x.g kd pl 2 := by rw [Eo 1 (by omega) (by omega) (by omega) (by omega), Go 2 (by omega) (by omega) (by omega)]; exact hr
  have hG2 : cF2 x.g kd pl 2 = 0 ∨ cF2 x.g kd pl 2 = 1 := by rw [Go 2 (by omega) (by omega) (by omega)]; exact hg2
  rw [errs_eF, ← eFF, Eg 1026 (by omega), E4, hol]
  by_cases off : ol ≤ eTe f k kd
  · have hP : cFailP x.g kd pl ol = 1 := by unfold cFailP; rw [G0, if_neg (Int32.not_lt.mpr off)]
    have hG : cFailG x.g kd pl ol = upd (upd (cF2 x.g kd pl) 5 0) 6 0 := by unfold cFailG; rw [G0, if_neg (Int32.not_lt.mpr off)]
    rw [if_pos off, hP, hG]
    exact sim_goes (x := (1, x.cu, upd (upd (cF2 x.g kd pl) 5 0) 6 0, x.s, cFailE x.e kd, x.W, x.R, x.C, x.ad)) ⟨hC, h13, hW, hRR, hA, c6, h19⟩ (by show 1 < 10; omega) (by show 1 ≠ 4; omega) (by show 1 ≠ 6; omega) rfl (fun z => absurd z (by show ¬ (4 ≤ 1 ∧ 1 ≤ 8); omega)) hG2 (fun _ => rfl) (fun z => absurd z (by show ¬ 1 = 7; omega))
  · have hP : cFailP x.g kd pl ol = 5 := by unfold cFailP; rw [G0, if_pos (Int32.not_le.mp off)]
    have e1 : T_goes F k 5 1025 = pl := by rw [goes_ge (by omega), Eg 1025 (by omega), hpl]
    have e4 : T_goes F k 5 (256 * k + 4) = eTe f k kd := by rw [goes_o (by omega) (by omega) (by omega) (by omega) (by omega) (by omega), E4]
    have e5 : T_goes F k 5 (256 * k + 5) = eRe f k := by rw [goes_o (by omega) (by omega) (by omega) (by omega) (by omega) (by omega), E5]
    have hcp : (if cPas (upd (cF2 x.g kd pl) 5 0) pl = true then (0 : Int32) else 1) = if pl ≤ eTe f k kd ∨ pl ≤ eRe f k then 0 else 1 := by
      have z : (cPas (upd (cF2 x.g kd pl) 5 0) pl = true) ↔ (pl ≤ eTe f k kd ∨ pl ≤ eRe f k) := by
        show decide (pl ≤ cF2 x.g kd pl 3 ∨ pl ≤ cF2 x.g kd pl 4) = true ↔ _
        rw [G3, G4]; exact decide_eq_true_iff
      by_cases y : pl ≤ eTe f k kd ∨ pl ≤ eRe f k
      · rw [if_pos y, if_pos (z.mpr y)]
      · rw [if_neg y, if_neg (fun w => y (z.mp w))]
    have hG : cFailG x.g kd pl ol = upd (upd (cF2 x.g kd pl) 5 0) 7 (if pl ≤ eTe f k kd ∨ pl ≤ eRe f k then 0 else 1) := by unfold cFailG; rw [G0, if_pos (Int32.not_le.mp off), hcp]
    rw [if_neg off, hP, hG, e1, e4, e5]
    have hs := sim_goes (f := F) (k := k) (q := q + 1) (V := V) (x := (5, x.cu, upd (cF2 x.g kd pl) 5 0, x.s, cFailE x.e kd, x.W, x.R, x.C, x.ad)) ⟨hC, h13, hW, hRR, hA, c6, h19⟩ (by show 5 < 10; omega) (by show 5 ≠ 4; omega) (by show 5 ≠ 6; omega) rfl (fun _ => hF1) hG2 (fun z => absurd z (by show ¬ 5 = 1; omega)) (fun z => absurd z (by show ¬ 5 = 7; omega))
    obtain ⟨⟨s1, s2, s3, s4, s5, s6, s7⟩, s8, s9, s10⟩ := hs
    have hv : (if pl ≤ eTe f k kd ∨ pl ≤ eRe f k then (0 : Int32) else 1) = 0 ∨ (if pl ≤ eTe f k kd ∨ pl ≤ eRe f k then (0 : Int32) else 1) = 1 := by split <;> simp
    generalize (if pl ≤ eTe f k kd ∨ pl ≤ eRe f k then (0 : Int32) else 1) = v at hv ⊢
    have u : ∀ c, c ≠ 18 → upd (T_goes F k 5) (256 * k + 18) v (256 * k + c) = T_goes F k 5 (256 * k + c) := fun c a => pk_un (by omega)
    refine ⟨⟨s1.act hv, by rw [u 13 (by omega)]; exact s2, s3.fr (fun c hc => u c (by omega)), s4.fr (fun c hc => u c (by omega)), s5.fr (fun c hc => u c (by omega)), s6, by rw [u 19 (by omega)]; exact s7⟩, s8.fr s3.2.2.2.2.1 (fun c hc => u c (by omega)), s9.fr (fun c hc => u c (by omega)), fun z => absurd z (by show ¬ 5 = 4; omega)⟩
