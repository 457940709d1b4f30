/-! what a node of the component says of a block of the reference: the relation -/
set_option maxRecDepth 100000
theorem ru {f : Nat → Int32} {k a b : Nat} {v : Int32} : upd f (256 * k + a) v (256 * k + b) = if b = a then v else f (256 * k + b) := by
  by_cases h : b = a
  · subst h; rw [pk_us, if_pos rfl]
  · rw [pk_un (by omega), if_neg h]
theorem ru0 {f : Nat → Int32} {k b : Nat} {v : Int32} : upd f (256 * k) v (256 * k + b) = if b = 0 then v else f (256 * k + b) := ru (a := 0)
theorem r0u {f : Nat → Int32} {k a : Nat} {v : Int32} : upd f (256 * k + a) v (256 * k) = if 0 = a then v else f (256 * k) := ru (b := 0)
theorem r00 {f : Nat → Int32} {k : Nat} {v : Int32} : upd f (256 * k) v (256 * k) = v := pk_us
theorem rug {f : Nat → Int32} {k a c : Nat} {v : Int32} (hk : k < 4) (ha : a < 256) (hc : 1024 ≤ c) : upd f (256 * k + a) v c = f c := pk_un (by omega)
theorem rug0 {f : Nat → Int32} {k c : Nat} {v : Int32} (hk : k < 4) (hc : 1024 ≤ c) : upd f (256 * k) v c = f c := pk_un (by omega)
/-- the phase independent numbers -/
def rC (f : Nat → Int32) (k q : Nat) (g e : Nat → Int32) : Prop :=
  ((∃ n, f (256 * k + 4) = nI n ∧ n ≤ 8 * q) ∧ f (256 * k + 4) = g 3) ∧ ((∃ n, f (256 * k + 5) = nI n ∧ n ≤ 255) ∧ f (256 * k + 5) = g 4) ∧
  (∀ j, 1 ≤ j → j ≤ 5 → f (256 * k + j + 5) = e j) ∧ T_last f k = g 19 ∧ f (256 * k + 12) = g 20 ∧ ((∃ n, f (256 * k + 14) = nI n ∧ n ≤ q) ∧ f (256 * k + 14) = g 22) ∧
  f (256 * k + 15) = g 23 ∧ f (256 * k + 16) = g 15 ∧ f (256 * k + 17) = g 16 ∧ (f (256 * k + 18) = g 7 ∧ (g 7 = 0 ∨ g 7 = 1)) ∧ (g 8 = 0 ∨ g 8 = 1) ∧ (f (256 * k + 26) = g 9 ∧ (g 9 = 0 ∨ g 9 = 1))
/-- the waiting frames: V in their order, W as the heap has them -/
def wE (f : Nat → Int32) (k i : Nat) (e : pqE) : Prop := f (256 * k + 5 * i + 30) = e.2.1 ∧ f (256 * k + 5 * i + 31) = bI e.2.2.1 ∧ f (256 * k + 5 * i + 32) = e.2.2.2.1 ∧ f (256 * k + 5 * i + 33) = e.2.2.2.2.1
def rW (f : Nat → Int32) (k q : Nat) (g : Nat → Int32) (W V : List pqE) : Prop :=
  V.Perm W ∧ V.Pairwise fLt ∧ pqH W ∧ (V.map Prod.fst).Nodup ∧ V.length ≤ 4 ∧ f (256 * k + 23) = nI V.length ∧ (∀ i e, V[i]? = some e → wE f k i e) ∧
  (∀ i, i < 4 → ∃ n, n ≤ 4 ∧ f (256 * k + 5 * i + 32) = nI n) ∧ (∀ e ∈ V, ∃ n, n ≤ 4 ∧ e.2.2.2.1 = nI n) ∧ ∃ r, g 17 = nI r ∧ r ≤ q ∧ ∀ e ∈ V, ∃ o, o < r ∧ e.2.2.2.2.2 = nI o
/-- whether a waiting frame is being sent -/
def rF (f : Nat → Int32) (k : Nat) (V : List pqE) (cs : Option Nat) : Prop := ∀ i e, V[i]? = some e → f (256 * k + 5 * i + 34) = if cs = some e.1 then 1 else 0
def rR (f : Nat → Int32) (k : Nat) (R : List pqE) : Prop := R.length ≤ 6 ∧ f (256 * k + 24) = nI R.length ∧ ∀ i e, R[i]? = some e → f (256 * k + 4 * i + 50) = e.2.1 ∧ f (256 * k + 4 * i + 51) = bI e.2.2.1 ∧ f (256 * k + 4 * i + 52) = e.2.2.2.1 ∧ f (256 * k + 4 * i + 53) = e.2.2.2.2.1
def rA (f : Nat → Int32) (k : Nat) (C : List (Int32 × Nat)) (ad : Nat → Int32 × Int32) : Prop :=
  C.Pairwise (fun a b => a.1 < b.1) ∧ C.length ≤ 4 ∧ f (256 * k + 25) = nI C.length ∧ (∀ e ∈ C, ∃ i, i < C.length ∧ f (256 * k + 3 * i + 74) = e.1 ∧ f (256 * k + 3 * i + 75) = (ad e.2).1 ∧ f (256 * k + 3 * i + 76) = (ad e.2).2) ∧
  (∀ i, i < C.length → ∃ e ∈ C, f (256 * k + 3 * i + 74) = e.1) ∧ (∀ i j, i < C.length → j < C.length → f (256 * k + 3 * i + 74) = f (256 * k + 3 * j + 74) → i = j) ∧ ∀ e ∈ C, ∃ n, n ≤ 4 ∧ (ad e.2).1 = nI n
def rP (f : Nat → Int32) (k : Nat) (ph : Nat) (g : Nat → Int32) : Prop :=
  (f (256 * k) = nI ph ∧ ph < 10) ∧ (g 2 = 0 ∨ g 2 = 1) ∧ f (256 * k + 1) = (if 4 ≤ ph ∧ ph ≤ 8 then g 2 else 0) ∧ f (256 * k + 2) = g 5 ∧ (ph = 7 → f (256 * k + 3) = g 8 ∧ ∃ n, n ≤ 7 ∧ g 5 = nI n) ∧ (ph = 1 → f (256 * k + 3) = g 6) ∧ (ph = 8 → ∃ n, n ≤ 2 ∧ g 5 = nI n)
/-- the bits that were sampled -/
def byS (s : Nat → Int32) (ln : Nat) : Nat := if s 4 = 0 then 8 * ln else 0
def rS (f : Nat → Int32) (k : Nat) (s : Nat → Int32) (b ln : Nat) : Prop :=
  (1 ≤ b ∧ b ≤ 34 + byS s ln ∧ ln ≤ 4) ∧ (f (256 * k + 19) = nI b ∧ s 2 = nI b) ∧ (f (256 * k + 20) = s 1 ∧ ∃ n, 1 ≤ n ∧ n ≤ 5 ∧ s 1 = nI n) ∧ (f (256 * k + 21) = s 0 ∧ (s 0 = 0 ∨ s 0 = 1)) ∧ (∀ j, j < b → f (256 * k + 90 + j) = 0 ∨ f (256 * k + 90 + j) = 1) ∧
  s 3 = smT f (256 * k + 91) (min (b - 1) 11) ∧ s 4 = (if 12 < b then f (256 * k + 102) else 0) ∧ s 5 = smT f (256 * k + 105) (min (b - 15) 4) ∧ (19 ≤ b → s 5 = nI ln) ∧
  s 6 = smT f (256 * k + 109) (min (b - 19) (byS s ln)) ∧ s 7 = crcT f (256 * k + 90) (min b (19 + byS s ln)) ∧ s 8 = smT f (256 * k + 109 + byS s ln) (b - (19 + byS s ln))
/-- where the frame's end is: the stuffed part, or a place behind it -/
def rT (f : Nat → Int32) (k : Nat) (s : Nat → Int32) (b ln : Nat) : Prop :=
  ((b < 19 ∨ b < 34 + byS s ln ∨ s 1 = 5) ∧ f (256 * k + 22) = -1 ∧ s 9 = 0) ∨ (19 ≤ b ∧ b = 34 + byS s ln ∧ ¬ s 1 = 5 ∧ ∃ t, t ≤ 9 ∧ f (256 * k + 22) = nI t ∧ s 9 = nI t)
/-- what a transmitter sends -/
def rO (f : Nat → Int32) (k : Nat) (b : Nat) (d : frD) (lw : Nat) : Prop :=
  (d.2.2.1 = nI lw ∧ lw ≤ 4) ∧ b ≤ 34 + byF d.2.1 lw ∧ (∀ p, p < 34 + byF d.2.1 lw → f (256 * k + p + 160) = frBT d.1 d.2.1 lw d.2.2.2.1 p) ∧ ∀ j, j < b → f (256 * k + 90 + j) = frBT d.1 d.2.1 lw d.2.2.2.1 j
def nSnd (x : NS) : Option Nat := if x.ph = 4 ∧ ¬ x.g 2 = 0 then x.cu else none
def rB (f : Nat → Int32) (k : Nat) (x : NS) (V : List pqE) : Prop :=
  x.ph = 4 → ∃ b ln, rS f k x.s b ln ∧ rT f k x.s b ln ∧ (¬ x.g 2 = 0 → ∃ ca d lw, x.cu = some ca ∧ (ca, d) ∈ V ∧ rO f k b d lw)
def relK (f : Nat → Int32) (k q : Nat) (x : NS) (V : List pqE) : Prop :=
  rC f k q x.g x.e ∧ f (256 * k + 13) = x.g 21 ∧ rW f k q x.g x.W V ∧ rR f k x.R ∧ rA f k x.C x.ad ∧ (x.s 4 = 0 ∨ x.s 4 = 1) ∧ (∃ n, n ≤ 66 ∧ f (256 * k + 19) = nI n)
def relV (f : Nat → Int32) (k q : Nat) (x : NS) (V : List pqE) : Prop := relK f k q x V ∧ rF f k V (nSnd x) ∧ rP f k x.ph x.g ∧ rB f k x V
def relN (f : Nat → Int32) (k q : Nat) (x : NS) : Prop := ∃ V, relV f k q x V
/-- each part speaks of its own cells -/
theorem rC.fr {F f : Nat → Int32} {k q : Nat} {g e : Nat → Int32} (h : rC f k q g e) (hF : ∀ c, (4 ≤ c ∧ c ≤ 12) ∨ (14 ≤ c ∧ c ≤ 18) ∨ c = 26 → F (256 * k + c) = f (256 * k + c)) : rC F k q g e := by
  unfold rC at *
  rw [hF 4 (by omega), hF 5 (by omega), hF 12 (by omega), hF 14 (by omega), hF 15 (by omega), hF 16 (by omega), hF 17 (by omega), hF 18 (by omega), hF 26 (by omega)]
  have hl : T_last F k = T_last f k := by unfold T_last; rw [hF 11 (by omega)]
  rw [hl]
  obtain ⟨h1, h2, h3, h4⟩ := h
  refine ⟨h1, h2, fun j a b => ?_, h4⟩
  rw [Nat.add_assoc, hF (j + 5) (by omega), ← Nat.add_assoc]
  exact h3 j a b
theorem rC.mono {f : Nat → Int32} {k q q' : Nat} {g e : Nat → Int32} (h : rC f k q g e) (hq : q ≤ q') : rC f k q' g e := by
  obtain ⟨⟨⟨n, a1, a2⟩, h1⟩, h2, h3, h4, h5, ⟨⟨m, b1, b2⟩, h6⟩, h7⟩ := h
  exact ⟨⟨⟨n, a1, by omega⟩, h1⟩, h2, h3, h4, h5, ⟨⟨m, b1, by omega⟩, h6⟩, h7⟩
theorem wE.fr {F f : Nat → Int32} {k i : Nat} {e : pqE} (h : wE f k i e) (hF : ∀ c, c < 4 → F (256 * k + 5 * i + (30 + c)) = f (256 * k + 5 * i + (30 + c))) : wE F k i e := by
  have h0 := hF 0 (by omega)
  have h1 := hF 1 (by omega)
  have h2 := hF 2 (by omega)
  have h3 := hF 3 (by omega)
  simp only [← Nat.add_assoc, Nat.reduceAdd, Nat.add_zero] at h0 h1 h2 h3
  unfold wE at *
  simp only [Nat.add_assoc, Nat.reduceAdd] at h0 h1 h2 h3 h ⊢
  rw [h0, h1, h2, h3]
  exact h
theorem rW.fr {F f : Nat → Int32} {k q : Nat} {g : Nat → Int32} {W V : List pqE} (h : rW f k q g W V) (hF : ∀ c, c = 23 ∨ (30 ≤ c ∧ c < 50 ∧ c ≠ 34 ∧ c ≠ 39 ∧ c ≠ 44 ∧ c ≠ 49) → F (256 * k + c) = f (256 * k + c)) : rW F k q g W V := by
  obtain ⟨h1, h2, h3, h4, h5, h6, h7, h8, h9⟩ := h
  refine ⟨h1, h2, h3, h4, h5, by rw [hF 23 (Or.inl rfl)]; exact h6, fun i e he => ?_, fun i hi => ?_, h9⟩
  · have hi : i < V.length := (List.getElem?_eq_some_iff.mp he).1
    refine (h7 i e he).fr (fun c hc => ?_)
    rw [Nat.add_assoc]
    exact hF _ (Or.inr (by omega))
  · rw [Nat.add_assoc, hF _ (Or.inr (by omega)), ← Nat.add_assoc]
    exact h8 i hi
theorem rW.mono {f : Nat → Int32} {k q q' : Nat} {g : Nat → Int32} {W V : List pqE} (h : rW f k q g W V) (hq : q ≤ q') : rW f k q' g W V := by
  obtain ⟨h1, h2, h3, h4, h5, h6, h7, h8, h9, r, a1, a2, a3⟩ := h
  exact ⟨h1, h2, h3, h4, h5, h6, h7, h8, h9, r, a1, by omega, a3⟩
theorem rF.fr {F f : Nat → Int32} {k : Nat} {V : List pqE} {cs : Option Nat} (h : rF f k V cs) (hV : V.length ≤ 4) (hF : ∀ c, c = 34 ∨ c = 39 ∨ c = 44 ∨ c = 49 → F (256 * k + c) = f (256 * k + c)) : rF F k V cs := by
  intro i e he
  have hi : i < V.length := (List.getElem?_eq_some_iff.mp he).1
  rw [Nat.add_assoc, hF _ (by omega), ← Nat.add_assoc]
  exact h i e he
theorem rF.none {F : Nat → Int32} {k : Nat} {V : List pqE} (hV : V.length ≤ 4) (hF : ∀ c, c = 34 ∨ c = 39 ∨ c = 44 ∨ c = 49 → F (256 * k + c) = 0) : rF F k V none := by
  intro i e he
  have hi : i < V.length := (List.getElem?_eq_some_iff.mp he).1
  rw [Nat.add_assoc, hF _ (by omega), if_neg (by intro q; cases q)]
theorem rR.fr {F f : Nat → Int32} {k : Nat} {R : List pqE} (h : rR f k R) (hF : ∀ c, c = 24 ∨ (50 ≤ c ∧ c < 74) → F (256 * k + c) = f (256 * k + c)) : rR F k R := by
  obtain ⟨h1, h2, h3⟩ := h
  refine ⟨h1, by rw [hF 24 (Or.inl rfl)]; exact h2, fun i e he => ?_⟩
  have hi : i < R.length := (List.getElem?_eq_some_iff.mp he).1
  have h4 := h3 i e he
  simp only [Nat.add_assoc] at h4 ⊢
  rw [hF _ (Or.inr (by omega)), hF _ (Or.inr (by omega)), hF _ (Or.inr (by omega)), hF _ (Or.inr (by omega))]
  exact h4
theorem rA.fr {F f : Nat → Int32} {k : Nat} {C : List (Int32 × Nat)} {ad : Nat → Int32 × Int32} (h : rA f k C ad) (hF : ∀ c, c = 25 ∨ (74 ≤ c ∧ c < 86) → F (256 * k + c) = f (256 * k + c)) : rA F k C ad := by
  obtain ⟨h1, h2, h3, h4, h5, h6, h7⟩ := h
  have e0 : ∀ i, i < C.length → F (256 * k + 3 * i + 74) = f (256 * k + 3 * i + 74) := fun i hi => by rw [Nat.add_assoc]; exact hF _ (Or.inr (by omega))
  have e1 : ∀ i, i < C.length → F (256 * k + 3 * i + 75) = f (256 * k + 3 * i + 75) := fun i hi => by rw [Nat.add_assoc]; exact hF _ (Or.inr (by omega))
  have e2 : ∀ i, i < C.length → F (256 * k + 3 * i + 76) = f (256 * k + 3 * i + 76) := fun i hi => by rw [Nat.add_assoc]; exact hF _ (Or.inr (by omega))
  refine ⟨h1, h2, by rw [hF 25 (Or.inl rfl)]; exact h3, fun e he => ?_, fun i hi => ?_, fun i j hi hj => ?_, h7⟩
  · obtain ⟨i, hi, q⟩ := h4 e he
    exact ⟨i, hi, by rw [e0 i hi, e1 i hi, e2 i hi]; exact q⟩
  · rw [e0 i hi]; exact h5 i hi
  · rw [e0 i hi, e0 j hj]; exact h6 i j hi hj
theorem rP.fr {F f : Nat → Int32} {k ph : Nat} {g : Nat → Int32} (h : rP f k ph g) (hF : ∀ c, c ≤ 3 → F (256 * k + c) = f (256 * k + c)) : rP F k ph g := by
  have h0 : F (256 * k) = f (256 * k) := hF 0 (by omega)
  unfold rP at *
  rw [h0, hF 1 (by omega), hF 2 (by omega), hF 3 (by omega)]
  exact h
theorem crcT_c {F f : Nat → Int32} {b n : Nat} (h : ∀ j, j < n → F (b + j) = f (b + j)) : crcT F b n = crcT f b n := by
  induction n with
  | zero => rfl
  | succ n ih =>
    show crcS (crcT F b n) (F (b + n)) = crcS (crcT f b n) (f (b + n))
    rw [ih (fun j hj => h j (by omega)), h n (by omega)]
theorem byS_le {s : Nat → Int32} {ln : Nat} (h : ln ≤ 4) : byS s ln ≤ 32 := by unfold byS; split <;> omega
theorem rS.fr {F f : Nat → Int32} {k b ln : Nat} {s : Nat → Int32} (h : rS f k s b ln) (hF : ∀ c, (19 ≤ c ∧ c ≤ 21) ∨ (90 ≤ c ∧ c < 160) → F (256 * k + c) = f (256 * k + c)) : rS F k s b ln := by
  have hb := byS_le (s := s) h.1.2.2
  have hbb := h.1.2.1
  have hc : ∀ a n, 90 ≤ a → a + n ≤ 160 → smT F (256 * k + a) n = smT f (256 * k + a) n := fun a n h1 h2 => smT_c (fun j hj => by rw [Nat.add_assoc]; exact hF _ (Or.inr (by omega)))
  have hcr : ∀ n, n ≤ 60 → crcT F (256 * k + 90) n = crcT f (256 * k + 90) n := fun n h2 => crcT_c (fun j hj => by rw [Nat.add_assoc]; exact hF _ (Or.inr (by omega)))
  unfold rS at *
  rw [hF 19 (by omega), hF 20 (by omega), hF 21 (by omega), hF 102 (by omega), hc 91 _ (by omega) (by omega), hc 105 _ (by omega) (by omega), hc 109 _ (by omega) (by omega), hcr _ (by omega), Nat.add_assoc (256 * k) 109 (byS s ln), hc (109 + byS s ln) _ (by omega) (by omega), ← Nat.add_assoc (256 * k) 109 (byS s ln)]
  obtain ⟨h1, h2, h3, h4, h5, h6⟩ := h
  refine ⟨h1, h2, h3, h4, fun j hj => ?_, h6⟩
  rw [Nat.add_assoc, hF _ (Or.inr (by omega)), ← Nat.add_assoc]
  exact h5 j hj
theorem rT.fr {F f : Nat → Int32} {k b ln : Nat} {s : Nat → Int32} (h : rT f k s b ln) (hF : F (256 * k + 22) = f (256 * k + 22)) : rT F k s b ln := by
  unfold rT at *
  rw [hF]
  exact h
theorem rO.fr {F f : Nat → Int32} {k b lw : Nat} {d : frD} (h : rO f k b d lw) (hF : ∀ c, 90 ≤ c ∧ c < 256 → F (256 * k + c) = f (256 * k + c)) : rO F k b d lw := by
  obtain ⟨h1, h2, h3, h4⟩ := h
  have hb := byF_le (rm := d.2.1) h1.2
  refine ⟨h1, h2, fun p hp => ?_, fun j hj => ?_⟩
  · rw [Nat.add_assoc, hF _ (by omega), ← Nat.add_assoc]; exact h3 p hp
  · rw [Nat.add_assoc, hF _ (by omega), ← Nat.add_assoc]; exact h4 j hj
theorem rB.fr {F f : Nat → Int32} {k : Nat} {x : NS} {V : List pqE} (h : rB f k x V) (hF : ∀ c, (19 ≤ c ∧ c ≤ 22) ∨ (90 ≤ c ∧ c < 256) → F (256 * k + c) = f (256 * k + c)) : rB F k x V := by
  intro hp
  obtain ⟨b, ln, h1, h2, h3⟩ := h hp
  refine ⟨b, ln, h1.fr (fun c hc => hF c (by omega)), h2.fr (hF 22 (by omega)), fun q => ?_⟩
  obtain ⟨ca, d, lw, a1, a2, a3⟩ := h3 q
  exact ⟨ca, d, lw, a1, a2, a3.fr (fun c hc => hF c (by omega))⟩
theorem relK.fr {F f : Nat → Int32} {k q : Nat} {x : NS} {V : List pqE} (h : relK f k q x V) (hF : ∀ c, (4 ≤ c ∧ c ≤ 19) ∨ (23 ≤ c ∧ c ≤ 26) ∨ (30 ≤ c ∧ c < 86 ∧ c ≠ 34 ∧ c ≠ 39 ∧ c ≠ 44 ∧ c ≠ 49) → F (256 * k + c) = f (256 * k + c)) : relK F k q x V := by
  obtain ⟨h1, h2, h3, h5, h6, h8, h9⟩ := h
  refine ⟨h1.fr (fun c hc => hF c (by omega)), by rw [hF 13 (by omega)]; exact h2, h3.fr (fun c hc => hF c (by omega)), h5.fr (fun c hc => hF c (by omega)), h6.fr (fun c hc => hF c (by omega)), h8, ?_⟩
  rw [hF 19 (by omega)]; exact h9
theorem relK.mono {f : Nat → Int32} {k q q' : Nat} {x : NS} {V : List pqE} (h : relK f k q x V) (hq : q ≤ q') : relK f k q' x V := by
  obtain ⟨h1, h2, h3, h4⟩ := h
  exact ⟨h1.mono hq, h2, h3.mono hq, h4⟩
theorem relV.fr {F f : Nat → Int32} {k q : Nat} {x : NS} {V : List pqE} (h : relV f k q x V) (hF : ∀ c, c < 256 → F (256 * k + c) = f (256 * k + c)) : relV F k q x V := by
  obtain ⟨h1, h4, h7, h10⟩ := h
  exact ⟨h1.fr (fun c hc => hF c (by omega)), h4.fr h1.2.2.1.2.2.2.2.1 (fun c hc => hF c (by omega)), h7.fr (fun c hc => hF c (by omega)), h10.fr (fun c hc => hF c (by omega))⟩
theorem relV.mono {f : Nat → Int32} {k q q' : Nat} {x : NS} {V : List pqE} (h : relV f k q x V) (hq : q ≤ q') : relV f k q' x V := ⟨h.1.mono hq, h.2⟩
theorem relN.fr {F f : Nat → Int32} {k q : Nat} {x : NS} (h : relN f k q x) (hF : ∀ c, c < 256 → F (256 * k + c) = f (256 * k + c)) : relN F k q x := by
  obtain ⟨V, h⟩ := h
  exact ⟨V, h.fr hF⟩
theorem relN.mono {f : Nat → Int32} {k q q' : Nat} {x : NS} (h : relN f k q x) (hq : q ≤ q') : relN f k q' x := by
  obtain ⟨V, h⟩ := h
  exact ⟨V, h.mono hq⟩
theorem nd_ne {V : List pqE} (h : (V.map Prod.fst).Nodup) {i j : Nat} {d e : pqE} (hi : V[i]? = some d) (hj : V[j]? = some e) (hij : i ≠ j) : d.1 ≠ e.1 := by
  have key : ∀ {i j : Nat} {d e : pqE}, V[i]? = some d → V[j]? = some e → i < j → d.1 ≠ e.1 := by
    intro i j d e hi hj hij
    obtain ⟨hi', rfl⟩ := List.getElem?_eq_some_iff.mp hi
    obtain ⟨hj', rfl⟩ := List.getElem?_eq_some_iff.mp hj
    have := List.pairwise_iff_getElem.mp h i j (by rw [List.length_map]; exact hi') (by rw [List.length_map]; exact hj') hij
    simpa only [List.getElem_map] using this
  rcases Nat.lt_or_gt_of_ne hij with q | q
  · exact key hi hj q
  · exact fun z => key hj hi q z.symm
theorem relK.fr2 {F f : Nat → Int32} {k q : Nat} {x : NS} {V : List pqE} {s : Nat → Int32} {p : Nat} {cu : Option Nat} (h : relK f k q x V) (hs : s 4 = 0 ∨ s 4 = 1) (h19 : ∃ n, n ≤ 66 ∧ F (256 * k + 19) = nI n) (hF : ∀ c, (4 ≤ c ∧ c ≤ 18) ∨ (23 ≤ c ∧ c ≤ 26) ∨ (30 ≤ c ∧ c < 86 ∧ c ≠ 34 ∧ c ≠ 39 ∧ c ≠ 44 ∧ c ≠ 49) → F (256 * k + c) = f (256 * k + c)) : relK F k q (p, cu, x.g, s, x.e, x.W, x.R, x.C, x.ad) V := by
  obtain ⟨h1, h2, h3, h5, h6, h8, h9⟩ := h
  exact ⟨h1.fr (fun c hc => hF c (by omega)), by rw [hF 13 (by omega)]; exact h2, h3.fr (fun c hc => hF c (by omega)), h5.fr (fun c hc => hF c (by omega)), h6.fr (fun c hc => hF c (by omega)), hs, h19⟩
