/-! search trees as functions: their shape alone -/
set_option maxRecDepth 100000
def inI (ρ : Nat → Int) (lo hi : Nat → Option Nat) (a c : Nat) : Prop := (∀ u, lo a = some u → ρ u < ρ c) ∧ (∀ u, hi a = some u → ρ c < ρ u)
def tmI (r : Option Nat) (Ns : List Nat) (ρ : Nat → Int) (lf rt pa lo hi : Nat → Option Nat) : Prop :=
  Ns.Nodup ∧
  (∀ a, r = some a → a ∈ Ns ∧ pa a = none ∧ lo a = none ∧ hi a = none) ∧
  (r = none → Ns = []) ∧
  (∀ a ∈ Ns, (∀ u, lo a = some u → u ∈ Ns ∧ ρ u < ρ a) ∧ (∀ u, hi a = some u → u ∈ Ns ∧ ρ a < ρ u)) ∧
  (∀ a ∈ Ns, ∀ b, lf a = some b → b ∈ Ns ∧ pa b = some a ∧ lo b = lo a ∧ hi b = some a) ∧
  (∀ a ∈ Ns, ∀ b, rt a = some b → b ∈ Ns ∧ pa b = some a ∧ lo b = some a ∧ hi b = hi a) ∧
  (∀ a ∈ Ns, lf a = none → ∀ c ∈ Ns, inI ρ lo hi a c → ¬ ρ c < ρ a) ∧
  (∀ a ∈ Ns, rt a = none → ∀ c ∈ Ns, inI ρ lo hi a c → ¬ ρ a < ρ c) ∧
  (∀ a ∈ Ns, ∀ b, pa a = some b → b ∈ Ns ∧ (lf b = some a ∨ rt b = some a)) ∧
  (∀ a ∈ Ns, pa a = none → r = some a) ∧
  (∀ a ∈ Ns, ∀ c ∈ Ns, ρ a = ρ c → a = c)
section TM
variable {r : Option Nat} {Ns : List Nat} {ρ : Nat → Int} {lf rt pa lo hi : Nat → Option Nat}
theorem inI.mir {a c : Nat} : inI (fun x => - ρ x) hi lo a c ↔ inI ρ lo hi a c := by
  simp only [inI]
  constructor
  · rintro ⟨h1, h2⟩
    exact ⟨fun u hu => by have := h2 u hu; omega, fun u hu => by have := h1 u hu; omega⟩
  · rintro ⟨h1, h2⟩
    exact ⟨fun u hu => by have := h2 u hu; omega, fun u hu => by have := h1 u hu; omega⟩
theorem tmI.mir (h : tmI r Ns ρ lf rt pa lo hi) : tmI r Ns (fun x => - ρ x) rt lf pa hi lo := by
  obtain ⟨h1, h2, h3, h4, h5, h6, h7, h8, h9, h10, h11⟩ := h
  refine ⟨h1, fun a ha => ?_, h3, fun a ha => ⟨fun u hu => ?_, fun u hu => ?_⟩, fun a ha b hb => ?_, fun a ha b hb => ?_, fun a ha hn c hc hi' => ?_, fun a ha hn c hc hi' => ?_, fun a ha b hb => ?_, h10, fun a ha c hc e => h11 a ha c hc (by have e' : - ρ a = - ρ c := e; omega)⟩
  · obtain ⟨q1, q2, q3, q4⟩ := h2 a ha; exact ⟨q1, q2, q4, q3⟩
  · have := (h4 a ha).2 u hu; exact ⟨this.1, by dsimp only; omega⟩
  · have := (h4 a ha).1 u hu; exact ⟨this.1, by dsimp only; omega⟩
  · obtain ⟨q1, q2, q3, q4⟩ := h6 a ha b hb; exact ⟨q1, q2, q4, q3⟩
  · obtain ⟨q1, q2, q3, q4⟩ := h5 a ha b hb; exact ⟨q1, q2, q4, q3⟩
  · have := h8 a ha hn c hc (inI.mir.mp hi'); dsimp only; omega
  · have := h7 a ha hn c hc (inI.mir.mp hi'); dsimp only; omega
  · obtain ⟨q1, q2⟩ := h9 a ha b hb; exact ⟨q1, q2.symm⟩
theorem tmI.mir2 (h : tmI r Ns (fun x => - ρ x) rt lf pa hi lo) : tmI r Ns ρ lf rt pa lo hi := by
  have := h.mir
  simpa only [Int.neg_neg] using this
/-- how many keys an entry's stretch holds -/
def inB (ρ : Nat → Int) (lo hi : Nat → Option Nat) (a c : Nat) : Bool := (match lo a with | none => true | some u => decide (ρ u < ρ c)) && (match hi a with | none => true | some u => decide (ρ c < ρ u))
theorem inB_iff {a c : Nat} : inB ρ lo hi a c = true ↔ inI ρ lo hi a c := by
  unfold inB inI
  cases h1 : lo a <;> cases h2 : hi a <;> simp
def tmw (Ns : List Nat) (ρ : Nat → Int) (lo hi : Nat → Option Nat) (a : Nat) : Nat := (Ns.filter (inB ρ lo hi a)).length
theorem inB_f {a c : Nat} (h : ¬ inI ρ lo hi a c) : inB ρ lo hi a c = false := by
  cases q : inB ρ lo hi a c with
  | false => rfl
  | true => exact absurd (inB_iff.mp q) h
theorem flt_lt {P Q : Nat → Bool} : (l : List Nat) → (∀ x ∈ l, P x = true → Q x = true) → ∀ a ∈ l, Q a = true → P a = false → (l.filter P).length < (l.filter Q).length
  | x :: l, h, a, ha, hq, hp => by
    have hle : (l.filter P).length ≤ (l.filter Q).length := by
      clear ha
      induction l with
      | nil => exact Nat.le_refl _
      | cons y l ih =>
        have ih' := ih (fun z hz => h z (by simp at hz ⊢; rcases hz with rfl | hz <;> simp [*]))
        have hy := h y (by simp)
        simp only [List.filter_cons]
        by_cases h1 : P y = true
        · rw [if_pos h1, if_pos (hy h1)]; simp only [List.length_cons]; omega
        · rw [if_neg h1]; split <;> (try simp only [List.length_cons]) <;> omega
    simp only [List.filter_cons]
    rcases List.mem_cons.mp ha with rfl | ha
    · rw [if_neg (by rw [hp]; decide), if_pos hq]; simp only [List.length_cons]; omega
    · have ih := flt_lt l (fun z hz => h z (by simp [hz])) a ha hq hp
      by_cases h1 : P x = true
      · rw [if_pos h1, if_pos (h x (by simp) h1)]; simp only [List.length_cons]; omega
      · rw [if_neg h1]; split <;> (try simp only [List.length_cons]) <;> omega
theorem tmw_le {a : Nat} : tmw Ns ρ lo hi a ≤ Ns.length := List.length_filter_le _ _
theorem tmI.self (h : tmI r Ns ρ lf rt pa lo hi) {a : Nat} (ha : a ∈ Ns) : inI ρ lo hi a a := ⟨fun u hu => ((h.2.2.2.1 a ha).1 u hu).2, fun u hu => ((h.2.2.2.1 a ha).2 u hu).2⟩
theorem tmI.wL (h : tmI r Ns ρ lf rt pa lo hi) {a b : Nat} (ha : a ∈ Ns) (hb : lf a = some b) : tmw Ns ρ lo hi b < tmw Ns ρ lo hi a := by
  obtain ⟨q1, q2, q3, q4⟩ := h.2.2.2.2.1 a ha b hb
  refine flt_lt Ns (fun x _ hx => ?_) a ha (inB_iff.mpr (h.self ha)) (inB_f (fun q => ?_))
  · have hx := inB_iff.mp hx
    refine inB_iff.mpr ⟨fun u hu => hx.1 u (by rw [q3]; exact hu), fun u hu => ?_⟩
    have e1 := hx.2 a q4
    have e2 := ((h.2.2.2.1 a ha).2 u hu).2
    omega
  · have := q.2 a q4; omega
theorem tmI.wR (h : tmI r Ns ρ lf rt pa lo hi) {a b : Nat} (ha : a ∈ Ns) (hb : rt a = some b) : tmw Ns ρ lo hi b < tmw Ns ρ lo hi a := by
  obtain ⟨q1, q2, q3, q4⟩ := h.2.2.2.2.2.1 a ha b hb
  refine flt_lt Ns (fun x _ hx => ?_) a ha (inB_iff.mpr (h.self ha)) (inB_f (fun q => ?_))
  · have hx := inB_iff.mp hx
    refine inB_iff.mpr ⟨fun u hu => ?_, fun u hu => hx.2 u (by rw [q4]; exact hu)⟩
    have e1 := hx.1 a q3
    have e2 := ((h.2.2.2.1 a ha).1 u hu).2
    omega
  · have := q.1 a q3; omega
theorem tmI.wP (h : tmI r Ns ρ lf rt pa lo hi) {a b : Nat} (ha : a ∈ Ns) (hb : pa a = some b) : tmw Ns ρ lo hi a < tmw Ns ρ lo hi b := by
  obtain ⟨q1, q2⟩ := h.2.2.2.2.2.2.2.2.1 a ha b hb
  rcases q2 with q2 | q2
  · exact h.wL q1 q2
  · exact h.wR q1 q2
/-- from the root down -/
theorem tmI.up (h : tmI r Ns ρ lf rt pa lo hi) {P : Nat → Prop} (hP : ∀ a ∈ Ns, (∀ b, pa a = some b → P b) → P a) : ∀ a ∈ Ns, P a := by
  have key : ∀ n a, a ∈ Ns → Ns.length - tmw Ns ρ lo hi a < n → P a := by
    intro n
    induction n with
    | zero => intro a _ hn; omega
    | succ n ih =>
      intro a ha hn
      refine hP a ha (fun b hb => ih b (h.2.2.2.2.2.2.2.2.1 a ha b hb).1 ?_)
      have h1 := h.wP ha hb
      have h2 := tmw_le (Ns := Ns) (ρ := ρ) (lo := lo) (hi := hi) (a := b)
      omega
  exact fun a ha => key _ a ha (Nat.lt_succ_self _)
theorem tmI.hiL (h : tmI r Ns ρ lf rt pa lo hi) : ∀ a ∈ Ns, (∀ u, hi a = some u → lf u ≠ none) ∧ (∀ u, lo a = some u → rt u ≠ none) := by
  refine h.up (fun a ha ih => ?_)
  obtain ⟨h1, h2, h3, h4, h5, h6, h7, h8, h9, h10, h11⟩ := h
  cases hp : pa a with
  | none =>
    obtain ⟨-, -, q3, q4⟩ := h2 a (h10 a ha hp)
    exact ⟨fun u hu => (by rw [q4] at hu; cases hu), fun u hu => (by rw [q3] at hu; cases hu)⟩
  | some b =>
    obtain ⟨q1, q2⟩ := h9 a ha b hp
    obtain ⟨i1, i2⟩ := ih b hp
    rcases q2 with q2 | q2
    · obtain ⟨-, -, e3, e4⟩ := h5 b q1 a q2
      refine ⟨fun u hu => ?_, fun u hu => i2 u (by rw [← e3]; exact hu)⟩
      rw [e4] at hu; cases hu; rw [q2]; simp
    · obtain ⟨-, -, e3, e4⟩ := h6 b q1 a q2
      refine ⟨fun u hu => i1 u (by rw [← e4]; exact hu), fun u hu => ?_⟩
      rw [e3] at hu; cases hu; rw [q2]; simp
/-- a turn to the left at p, whose right child is q -/
def rlL (lf pa : Nat → Option Nat) (p q : Nat) : Nat → Option Nat := va_up (match pa p with | none => lf | some g => if lf g = some p then va_up lf g (some q) else lf) q (some p)
def rlR (lf rt pa : Nat → Option Nat) (p q : Nat) : Nat → Option Nat := match pa p with | none => va_up rt p (lf q) | some g => if lf g = some p then va_up rt p (lf q) else va_up (va_up rt p (lf q)) g (some q)
def rlP (lf pa : Nat → Option Nat) (p q : Nat) : Nat → Option Nat := va_up (va_up (match lf q with | none => pa | some c => va_up pa c (some p)) q (pa p)) p (some q)
def rlT (r : Option Nat) (pa : Nat → Option Nat) (p q : Nat) : Option Nat := match pa p with | none => some q | some _ => r
set_option maxHeartbeats 4000000 in
theorem tmI.rotL (h : tmI r Ns ρ lf rt pa lo hi) {p q : Nat} (hp : p ∈ Ns) (hq : rt p = some q) : tmI (rlT r pa p q) Ns ρ (rlL lf pa p q) (rlR lf rt pa p q) (rlP lf pa p q) (va_up lo q (lo p)) (va_up hi p (some q)) := by
  obtain ⟨h1, h2, h3, h4, h5, h6, h7, h8, h9, h10, h11⟩ := h
  obtain ⟨q1, q2, q3, q4⟩ := h6 p hp q hq
  have hpq : ρ p < ρ q := ((h4 q q1).1 p q3).2
  have hne : p ≠ q := fun e => by rw [e] at hpq; omega
  have k7 : ∀ L' : Nat → Option Nat, (∀ a ∈ Ns, L' a = none → a ≠ q ∧ lf a = none) → ∀ a ∈ Ns, L' a = none → ∀ c ∈ Ns, inI ρ (va_up lo q (lo p)) (va_up hi p (some q)) a c → ¬ ρ c < ρ a := by
    intro L' hL a ha hn c hc hI
    obtain ⟨e1, e2⟩ := hL a ha hn
    refine h7 a ha e2 c hc ⟨fun u hu => hI.1 u (by rw [va_up_ne _ _ e1]; exact hu), fun u hu => ?_⟩
    by_cases hap : a = p
    · subst hap
      have := hI.2 q (va_up_self _ _ _)
      have := ((h4 q q1).2 u (q4.trans hu)).2
      omega
    · exact hI.2 u (by rw [va_up_ne _ _ hap]; exact hu)
  have k8 : ∀ R' : Nat → Option Nat, (∀ a ∈ Ns, R' a = none → (a = p ∧ lf q = none) ∨ (a ≠ p ∧ rt a = none)) → ∀ a ∈ Ns, R' a = none → ∀ c ∈ Ns, inI ρ (va_up lo q (lo p)) (va_up hi p (some q)) a c → ¬ ρ a < ρ c := by
    intro R' hR a ha hn c hc hI
    rcases hR a ha hn with ⟨rfl, e2⟩ | ⟨e1, e2⟩
    · intro hac
      have hcq := hI.2 q (va_up_self _ _ _)
      refine h7 q q1 e2 c hc ⟨fun u hu => ?_, fun u hu => ?_⟩ hcq
      · rw [q3] at hu; cases hu; exact hac
      · have := ((h4 q q1).2 u hu).2; omega
    · by_cases haq : a = q
      · subst haq
        intro hac
        refine h8 a ha e2 c hc ⟨fun u hu => ?_, fun u hu => hI.2 u (by rw [va_up_ne _ _ e1]; exact hu)⟩ hac
        rw [q3] at hu; cases hu; omega
      · exact h8 a ha e2 c hc ⟨fun u hu => hI.1 u (by rw [va_up_ne _ _ haq]; exact hu), fun u hu => hI.2 u (by rw [va_up_ne _ _ e1]; exact hu)⟩
  rcases hc : lf q with _ | c
  · skip
    rcases hg : pa p with _ | g
    · have hrt := h10 p hp hg
      simp only [rlT, rlP, rlL, rlR, hc, hg]
      refine ⟨h1, ?_, ?_, ?_, ?_, ?_, ?_, ?_, ?_, ?_, h11⟩
      · (try simp only [va_up]); grind
      · (try simp only [va_up]); grind
      · intro a ha; simp only [va_up]; grind
      · intro a ha b hb; simp only [va_up] at hb ⊢; grind
      · intro a ha b hb; simp only [va_up] at hb ⊢; grind
      · exact k7 _ (fun a ha hn => by simp only [va_up] at hn; grind)
      · exact k8 _ (fun a ha hn => by simp only [va_up] at hn; grind)
      · intro a ha b hb; simp only [va_up] at hb ⊢; grind
      · (try simp only [va_up]); grind
    · obtain ⟨g1, g2⟩ := h9 p hp g hg
      by_cases hl : lf g = some p
      · obtain ⟨-, -, e3, e4⟩ := h5 g g1 p hl
        have gp : ρ p < ρ g := ((h4 p hp).2 g e4).2
        have gq : ρ q < ρ g := ((h4 q q1).2 g (q4.trans e4)).2
        simp only [rlT, rlP, rlL, rlR, hc, hg, if_pos hl]
        refine ⟨h1, ?_, ?_, ?_, ?_, ?_, ?_, ?_, ?_, ?_, h11⟩
        · (try simp only [va_up]); grind
        · (try simp only [va_up]); grind
        · intro a ha; simp only [va_up]; grind
        · intro a ha b hb; simp only [va_up] at hb ⊢; grind
        · intro a ha b hb; simp only [va_up] at hb ⊢; grind
        · exact k7 _ (fun a ha hn => by simp only [va_up] at hn; grind)
        · exact k8 _ (fun a ha hn => by simp only [va_up] at hn; grind)
        · intro a ha b hb; simp only [va_up] at hb ⊢; grind
        · (try simp only [va_up]); grind
      · have hr : rt g = some p := g2.resolve_left hl
        obtain ⟨-, -, e3, e4⟩ := h6 g g1 p hr
        have gp : ρ g < ρ p := ((h4 p hp).1 g e3).2
        simp only [rlT, rlP, rlL, rlR, hc, hg, if_neg hl]
        refine ⟨h1, ?_, ?_, ?_, ?_, ?_, ?_, ?_, ?_, ?_, h11⟩
        · (try simp only [va_up]); grind
        · (try simp only [va_up]); grind
        · intro a ha; simp only [va_up]; grind
        · intro a ha b hb; simp only [va_up] at hb ⊢; grind
        · intro a ha b hb; simp only [va_up] at hb ⊢; grind
        · exact k7 _ (fun a ha hn => by simp only [va_up] at hn; grind)
        · exact k8 _ (fun a ha hn => by simp only [va_up] at hn; grind)
        · intro a ha b hb; simp only [va_up] at hb ⊢; grind
        · (try simp only [va_up]); grind
  · obtain ⟨c1, c2, c3, c4⟩ := h5 q q1 c hc
    have cp : ρ p < ρ c := ((h4 c c1).1 p (c3.trans q3)).2
    have cq : ρ c < ρ q := ((h4 c c1).2 q c4).2
    rcases hg : pa p with _ | g
    · have hrt := h10 p hp hg
      simp only [rlT, rlP, rlL, rlR, hc, hg]
      refine ⟨h1, ?_, ?_, ?_, ?_, ?_, ?_, ?_, ?_, ?_, h11⟩
      · (try simp only [va_up]); grind
      · (try simp only [va_up]); grind
      · intro a ha; simp only [va_up]; grind
      · intro a ha b hb; simp only [va_up] at hb ⊢; grind
      · intro a ha b hb; simp only [va_up] at hb ⊢; grind
      · exact k7 _ (fun a ha hn => by simp only [va_up] at hn; grind)
      · exact k8 _ (fun a ha hn => by simp only [va_up] at hn; grind)
      · intro a ha b hb; simp only [va_up] at hb ⊢; grind
      · (try simp only [va_up]); grind
    · obtain ⟨g1, g2⟩ := h9 p hp g hg
      by_cases hl : lf g = some p
      · obtain ⟨-, -, e3, e4⟩ := h5 g g1 p hl
        have gp : ρ p < ρ g := ((h4 p hp).2 g e4).2
        have gq : ρ q < ρ g := ((h4 q q1).2 g (q4.trans e4)).2
        simp only [rlT, rlP, rlL, rlR, hc, hg, if_pos hl]
        refine ⟨h1, ?_, ?_, ?_, ?_, ?_, ?_, ?_, ?_, ?_, h11⟩
        · (try simp only [va_up]); grind
        · (try simp only [va_up]); grind
        · intro a ha; simp only [va_up]; grind
        · intro a ha b hb; simp only [va_up] at hb ⊢; grind
        · intro a ha b hb; simp only [va_up] at hb ⊢; grind
        · exact k7 _ (fun a ha hn => by simp only [va_up] at hn; grind)
        · exact k8 _ (fun a ha hn => by simp only [va_up] at hn; grind)
        · intro a ha b hb; simp only [va_up] at hb ⊢; grind
        · (try simp only [va_up]); grind
      · have hr : rt g = some p := g2.resolve_left hl
        obtain ⟨-, -, e3, e4⟩ := h6 g g1 p hr
        have gp : ρ g < ρ p := ((h4 p hp).1 g e3).2
        simp only [rlT, rlP, rlL, rlR, hc, hg, if_neg hl]
        refine ⟨h1, ?_, ?_, ?_, ?_, ?_, ?_, ?_, ?_, ?_, h11⟩
        · (try simp only [va_up]); grind
        · (try simp only [va_up]); grind
        · intro a ha; simp only [va_up]; grind
        · intro a ha b hb; simp only [va_up] at hb ⊢; grind
        · intro a ha b hb; simp only [va_up] at hb ⊢; grind
        · exact k7 _ (fun a ha hn => by simp only [va_up] at hn; grind)
        · exact k8 _ (fun a ha hn => by simp only [va_up] at hn; grind)
        · intro a ha b hb; simp only [va_up] at hb ⊢; grind
        · (try simp only [va_up]); grind
end TM
