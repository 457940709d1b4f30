/-! search trees: finding, neighbours; sorted lists of entries -/
set_option maxRecDepth 100000
theorem cmpI_lt {x y : Int32} : cmpI x y < 0 ↔ x < y := by
  unfold cmpI
  repeat' split
  all_goals (simp only [Int32.lt_iff_toInt_lt, ← Int32.toInt_inj] at *; constructor <;> intro hh <;> first | omega | decide | exact absurd hh (by decide))
theorem cmpI_gt {x y : Int32} : 0 < cmpI x y ↔ y < x := by
  unfold cmpI
  repeat' split
  all_goals (simp only [Int32.lt_iff_toInt_lt, ← Int32.toInt_inj] at *; constructor <;> intro hh <;> first | omega | decide | exact absurd hh (by decide))
def kyR (ky : Nat → Int32) : Nat → Int := fun a => (ky a).toInt
theorem kyR_lt {ky : Nat → Int32} {a b : Nat} : kyR ky a < kyR ky b ↔ ky a < ky b := by unfold kyR; exact Int32.lt_iff_toInt_lt.symm
def tmF (Ns : List Nat) (ky : Nat → Int32) (k : Int32) : Option Nat := Ns.find? (fun a => decide (ky a = k))
def tmH (Ns : List Nat) (ky : Nat → Int32) (k : Int32) : Option Nat := Ns.find? (fun a => decide (k < ky a))
def tmL (Ns : List Nat) (ky : Nat → Int32) (k : Int32) : Option Nat := Ns.reverse.find? (fun a => decide (ky a < k))
abbrev tmS (Ns : List Nat) (ky : Nat → Int32) : Prop := Ns.Pairwise (fun a b => ky a < ky b)
section TM3
variable {r : Option Nat} {Ns : List Nat} {ky : Nat → Int32} {lf rt pa lo hi : Nat → Option Nat}
theorem tmF_some {a : Nat} {k : Int32} (ha : a ∈ Ns) (hk : ky a = k) (hi : ∀ c ∈ Ns, ky c = k → c = a) : tmF Ns ky k = some a := by
  unfold tmF
  cases h : Ns.find? (fun a => decide (ky a = k)) with
  | none => exact absurd hk (by simpa using List.find?_eq_none.mp h a ha)
  | some c =>
    have h1 := List.find?_some h
    have h2 := List.mem_of_find?_eq_some h
    rw [hi c h2 (by simpa using h1)]
theorem tmF_none {k : Int32} (h : ∀ c ∈ Ns, ky c ≠ k) : tmF Ns ky k = none := by
  unfold tmF
  rw [List.find?_eq_none]
  intro c hc
  simpa using h c hc
theorem tmF_mem {a : Nat} {k : Int32} (h : tmF Ns ky k = some a) : a ∈ Ns ∧ ky a = k := ⟨List.mem_of_find?_eq_some h, by simpa using List.find?_some h⟩
theorem tmF_no {k : Int32} (h : tmF Ns ky k = none) : ∀ c ∈ Ns, ky c ≠ k := by
  intro c hc
  simpa using List.find?_eq_none.mp h c hc
theorem fnd_first {P : Nat → Bool} : {l : List Nat} → l.Pairwise (fun a b => ky a < ky b) → {a : Nat} → a ∈ l → P a = true → (∀ c ∈ l, P c = true → ¬ ky c < ky a) → l.find? P = some a
  | x :: l, hs, a, ha, hp, hm => by
    rw [List.find?_cons]
    rcases List.mem_cons.mp ha with rfl | ha
    · rw [hp]
    · have hxa := (List.pairwise_cons.mp hs).1 a ha
      cases hx : P x with
      | true => exact absurd hxa (hm x (by simp) hx)
      | false => exact fnd_first (List.pairwise_cons.mp hs).2 ha hp (fun c hc => hm c (by simp [hc]))
theorem tmH_some {a : Nat} {k : Int32} (hs : tmS Ns ky) (ha : a ∈ Ns) (hk : k < ky a) (hm : ∀ c ∈ Ns, k < ky c → ¬ ky c < ky a) : tmH Ns ky k = some a := fnd_first hs ha (by simpa using hk) (fun c hc h => hm c hc (by simpa using h))
theorem tmH_none {k : Int32} (h : ∀ c ∈ Ns, ¬ k < ky c) : tmH Ns ky k = none := by
  unfold tmH
  rw [List.find?_eq_none]
  intro c hc
  simpa using h c hc
theorem fnd_last {P : Nat → Bool} {l : List Nat} (hs : l.Pairwise (fun a b => ky b < ky a)) {a : Nat} (ha : a ∈ l) (hp : P a = true) (hm : ∀ c ∈ l, P c = true → ¬ ky a < ky c) : l.find? P = some a := by
  induction l with
  | nil => cases ha
  | cons x l ih =>
    rw [List.find?_cons]
    rcases List.mem_cons.mp ha with rfl | ha
    · rw [hp]
    · have hxa := (List.pairwise_cons.mp hs).1 a ha
      cases hx : P x with
      | true => exact absurd hxa (hm x (by simp) hx)
      | false => exact ih (List.pairwise_cons.mp hs).2 ha (fun c hc => hm c (by simp [hc]))
theorem tmL_some {a : Nat} {k : Int32} (hs : tmS Ns ky) (ha : a ∈ Ns) (hk : ky a < k) (hm : ∀ c ∈ Ns, ky c < k → ¬ ky a < ky c) : tmL Ns ky k = some a := fnd_last (List.pairwise_reverse.mpr hs) (List.mem_reverse.mpr ha) (by simpa using hk) (fun c hc h => hm c (List.mem_reverse.mp hc) (by simpa using h))
theorem tmL_none {k : Int32} (h : ∀ c ∈ Ns, ¬ ky c < k) : tmL Ns ky k = none := by
  unfold tmL
  rw [List.find?_eq_none]
  intro c hc
  simpa using h c (List.mem_reverse.mp hc)
theorem tmI.inj (h : tmI r Ns (kyR ky) lf rt pa lo hi) {a c : Nat} (ha : a ∈ Ns) (hc : c ∈ Ns) (e : ky a = ky c) : a = c := h.2.2.2.2.2.2.2.2.2.2 a ha c hc (by unfold kyR; rw [e])
/-- a key that lies in a's stretch, to the left of a, lies in that of its left child -/
theorem tmI.goL {ρ : Nat → Int} (h : tmI r Ns ρ lf rt pa lo hi) {a c : Nat} (ha : a ∈ Ns) (hc : c ∈ Ns) (hI : inI ρ lo hi a c) (hlt : ρ c < ρ a) : ∃ b, lf a = some b ∧ inI ρ lo hi b c := by
  cases e : lf a with
  | none => exact absurd hlt (h.2.2.2.2.2.2.1 a ha e c hc hI)
  | some b =>
    obtain ⟨-, -, e3, e4⟩ := h.2.2.2.2.1 a ha b e
    exact ⟨b, rfl, fun u hu => hI.1 u (e3.symm.trans hu), fun u hu => by rw [e4] at hu; cases hu; exact hlt⟩
theorem tmI.goR {ρ : Nat → Int} (h : tmI r Ns ρ lf rt pa lo hi) {a c : Nat} (ha : a ∈ Ns) (hc : c ∈ Ns) (hI : inI ρ lo hi a c) (hlt : ρ a < ρ c) : ∃ b, rt a = some b ∧ inI ρ lo hi b c := by
  cases e : rt a with
  | none => exact absurd hlt (h.2.2.2.2.2.2.2.1 a ha e c hc hI)
  | some b =>
    obtain ⟨-, -, e3, e4⟩ := h.2.2.2.2.2.1 a ha b e
    exact ⟨b, rfl, fun u hu => by rw [e3] at hu; cases hu; exact hlt, fun u hu => hI.2 u (e4.symm.trans hu)⟩
/-- where k lies, seen from a -/
def atI (ky : Nat → Int32) (lo hi : Nat → Option Nat) (a : Nat) (k : Int32) : Prop := (∀ u, lo a = some u → ky u ≤ k) ∧ (∀ u, hi a = some u → k < ky u)
def atJ (ky : Nat → Int32) (lo hi : Nat → Option Nat) (a : Nat) (k : Int32) : Prop := (∀ u, lo a = some u → ky u < k) ∧ (∀ u, hi a = some u → k ≤ ky u)
def atK (ky : Nat → Int32) (lo hi : Nat → Option Nat) (a : Nat) (k : Int32) : Prop := (∀ u, lo a = some u → ky u < k) ∧ (∀ u, hi a = some u → k < ky u)
theorem tmI.root (h : tmI r Ns (kyR ky) lf rt pa lo hi) {a : Nat} (e : r = some a) (k : Int32) : atI ky lo hi a k ∧ atJ ky lo hi a k ∧ atK ky lo hi a k := by
  obtain ⟨-, -, e3, e4⟩ := h.2.1 a e
  refine ⟨⟨?_, ?_⟩, ⟨?_, ?_⟩, ⟨?_, ?_⟩⟩ <;> (intro u hu; first | (rw [e3] at hu; cases hu) | (rw [e4] at hu; cases hu))
theorem tmI.hgL (h : tmI r Ns (kyR ky) lf rt pa lo hi) (hs : tmS Ns ky) {a : Nat} (ha : a ∈ Ns) {k : Int32} (hk : atI ky lo hi a k) (hlt : k < ky a) (hn : lf a = none) : tmH Ns ky k = some a := by
  refine tmH_some hs ha hlt (fun c hc q1 q2 => ?_)
  refine h.2.2.2.2.2.2.1 a ha hn c hc ⟨fun u hu => ?_, fun u hu => ?_⟩ (kyR_lt.mpr q2)
  · have := hk.1 u hu; rw [kyR_lt]; exact Int32.lt_of_le_of_lt this q1
  · have := ((h.2.2.2.1 a ha).2 u hu).2; rw [kyR_lt] at *; exact Int32.lt_trans q2 this
theorem tmI.hgR (h : tmI r Ns (kyR ky) lf rt pa lo hi) (hs : tmS Ns ky) {a : Nat} (ha : a ∈ Ns) {k : Int32} (hk : atI ky lo hi a k) (hge : ky a ≤ k) (hn : rt a = none) : tmH Ns ky k = hi a := by
  have key : ∀ c ∈ Ns, k < ky c → ¬ (∀ u, hi a = some u → ky c < ky u) := by
    intro c hc q1 q2
    refine h.2.2.2.2.2.2.2.1 a ha hn c hc ⟨fun u hu => ?_, fun u hu => kyR_lt.mpr (q2 u hu)⟩ (kyR_lt.mpr (Int32.lt_of_le_of_lt hge q1))
    have := hk.1 u hu; rw [kyR_lt]; exact Int32.lt_of_le_of_lt this q1
  cases e : hi a with
  | none => exact tmH_none (fun c hc q => key c hc q (fun u hu => by rw [e] at hu; cases hu))
  | some b => exact tmH_some hs ((h.2.2.2.1 a ha).2 b e).1 (hk.2 b e) (fun c hc q1 q2 => key c hc q1 (fun u hu => by rw [e] at hu; cases hu; exact q2))
theorem tmI.lwR (h : tmI r Ns (kyR ky) lf rt pa lo hi) (hs : tmS Ns ky) {a : Nat} (ha : a ∈ Ns) {k : Int32} (hk : atJ ky lo hi a k) (hlt : ky a < k) (hn : rt a = none) : tmL Ns ky k = some a := by
  refine tmL_some hs ha hlt (fun c hc q1 q2 => ?_)
  refine h.2.2.2.2.2.2.2.1 a ha hn c hc ⟨fun u hu => ?_, fun u hu => ?_⟩ (kyR_lt.mpr q2)
  · have := ((h.2.2.2.1 a ha).1 u hu).2; rw [kyR_lt] at *; exact Int32.lt_trans this q2
  · have := hk.2 u hu; rw [kyR_lt]; exact Int32.lt_of_lt_of_le q1 this
theorem tmI.lwL (h : tmI r Ns (kyR ky) lf rt pa lo hi) (hs : tmS Ns ky) {a : Nat} (ha : a ∈ Ns) {k : Int32} (hk : atJ ky lo hi a k) (hge : k ≤ ky a) (hn : lf a = none) : tmL Ns ky k = lo a := by
  have key : ∀ c ∈ Ns, ky c < k → ¬ (∀ u, lo a = some u → ky u < ky c) := by
    intro c hc q1 q2
    refine h.2.2.2.2.2.2.1 a ha hn c hc ⟨fun u hu => kyR_lt.mpr (q2 u hu), fun u hu => ?_⟩ (kyR_lt.mpr (Int32.lt_of_lt_of_le q1 hge))
    have := hk.2 u hu; rw [kyR_lt]; exact Int32.lt_of_lt_of_le q1 this
  cases e : lo a with
  | none => exact tmL_none (fun c hc q => key c hc q (fun u hu => by rw [e] at hu; cases hu))
  | some b => exact tmL_some hs ((h.2.2.2.1 a ha).1 b e).1 (hk.1 b e) (fun c hc q1 q2 => key c hc q1 (fun u hu => by rw [e] at hu; cases hu; exact q2))
/-- an entry's own place -/
theorem tmI.own (h : tmI r Ns (kyR ky) lf rt pa lo hi) {a : Nat} (ha : a ∈ Ns) : atI ky lo hi a (ky a) := ⟨fun u hu => by have := ((h.2.2.2.1 a ha).1 u hu).2; rw [kyR_lt] at this; exact Int32.le_of_lt this, fun u hu => by have := ((h.2.2.2.1 a ha).2 u hu).2; rw [kyR_lt] at this; exact this⟩
/-- the leftmost of the right -/
theorem tmI.lm (h : tmI r Ns (kyR ky) lf rt pa lo hi) (hs : tmS Ns ky) {a b : Nat} (ha : a ∈ Ns) (hb : b ∈ Ns) (e : lo b = some a) (hn : lf b = none) : tmH Ns ky (ky a) = some b := by
  have hab := ((h.2.2.2.1 b hb).1 a e).2
  rw [kyR_lt] at hab
  refine tmH_some hs hb hab (fun c hc q1 q2 => ?_)
  refine h.2.2.2.2.2.2.1 b hb hn c hc ⟨fun u hu => by rw [e] at hu; cases hu; exact kyR_lt.mpr q1, fun u hu => ?_⟩ (kyR_lt.mpr q2)
  have := ((h.2.2.2.1 b hb).2 u hu).2; rw [kyR_lt] at *; exact Int32.lt_trans q2 this
theorem tmI.lmost (h : tmI r Ns (kyR ky) lf rt pa lo hi) {a b : Nat} (hb : b ∈ Ns) (e : lo b = some a) : ∃ s ∈ Ns, lf s = none ∧ lo s = some a := by
  have key : ∀ n b, b ∈ Ns → lo b = some a → tmw Ns (kyR ky) lo hi b < n → ∃ s ∈ Ns, lf s = none ∧ lo s = some a := by
    intro n
    induction n with
    | zero => intro b _ _ hn; omega
    | succ n ih =>
      intro b hb e hn
      cases q : lf b with
      | none => exact ⟨b, hb, q, e⟩
      | some c =>
        obtain ⟨c1, -, c3, -⟩ := h.2.2.2.2.1 b hb c q
        exact ih c c1 (c3.trans e) (by have := h.wL hb q; omega)
  exact key _ b hb e (Nat.lt_succ_self _)
theorem tmI.fst (h : tmI r Ns (kyR ky) lf rt pa lo hi) (hs : tmS Ns ky) {a : Nat} (ha : a ∈ Ns) (e : lo a = none) (hn : lf a = none) : Ns.head? = some a := by
  have hm : ∀ c ∈ Ns, ¬ ky c < ky a := by
    intro c hc q2
    refine h.2.2.2.2.2.2.1 a ha hn c hc ⟨fun u hu => (by rw [e] at hu; cases hu), fun u hu => ?_⟩ (kyR_lt.mpr q2)
    have := ((h.2.2.2.1 a ha).2 u hu).2; rw [kyR_lt] at *; exact Int32.lt_trans q2 this
  cases Ns with
  | nil => cases ha
  | cons x l =>
    rcases List.mem_cons.mp ha with rfl | ha
    · rfl
    · exact absurd ((List.pairwise_cons.mp hs).1 a ha) (hm x (by simp))
end TM3
