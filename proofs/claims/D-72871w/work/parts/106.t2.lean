/-! search trees: insertion, deletion, neighbours -/
set_option maxRecDepth 100000
section TM2
variable {r : Option Nat} {Ns : List Nat} {ρ : Nat → Int} {lf rt pa lo hi : Nat → Option Nat}
theorem tmI.rotR (h : tmI r Ns ρ lf rt pa lo hi) {p q : Nat} (hp : p ∈ Ns) (hq : lf p = some q) : tmI (rlT r pa p q) Ns ρ (rlR rt lf pa p q) (rlL rt pa p q) (rlP rt pa p q) (va_up lo p (some q)) (va_up hi q (hi p)) := (h.mir.rotL hp hq).mir2
theorem tmI.congr (h : tmI r Ns ρ lf rt pa lo hi) {ρ' : Nat → Int} (hρ : ∀ a ∈ Ns, ∀ b ∈ Ns, (ρ a < ρ b ↔ ρ' a < ρ' b)) : tmI r Ns ρ' lf rt pa lo hi := by
  obtain ⟨h1, h2, h3, h4, h5, h6, h7, h8, h9, h10, h11⟩ := h
  have hI : ∀ a ∈ Ns, ∀ c ∈ Ns, inI ρ' lo hi a c → inI ρ lo hi a c := fun a ha c hc q => ⟨fun u hu => (hρ u ((h4 a ha).1 u hu).1 c hc).mpr (q.1 u hu), fun u hu => (hρ c hc u ((h4 a ha).2 u hu).1).mpr (q.2 u hu)⟩
  refine ⟨h1, h2, h3, fun a ha => ⟨fun u hu => ?_, fun u hu => ?_⟩, h5, h6, fun a ha hn c hc q => ?_, fun a ha hn c hc q => ?_, h9, h10, fun a ha c hc e => ?_⟩
  · have := (h4 a ha).1 u hu; exact ⟨this.1, (hρ u this.1 a ha).mp this.2⟩
  · have := (h4 a ha).2 u hu; exact ⟨this.1, (hρ a ha u this.1).mp this.2⟩
  · exact fun z => h7 a ha hn c hc (hI a ha c hc q) ((hρ c hc a ha).mpr z)
  · exact fun z => h8 a ha hn c hc (hI a ha c hc q) ((hρ a ha c hc).mpr z)
  · apply h11 a ha c hc
    have e1 := (hρ a ha c hc).mp
    have e2 := (hρ c hc a ha).mp
    rcases Int.lt_trichotomy (ρ a) (ρ c) with z | z | z
    · have := e1 z; omega
    · exact z
    · have := e2 z; omega
theorem tmI.insL (h : tmI r Ns ρ lf rt pa lo hi) {P x : Nat} {Ns' : List Nat} (hP : P ∈ Ns) (hx : x ∉ Ns) (hN : Ns'.Nodup) (hm : ∀ a, a ∈ Ns' ↔ a = x ∨ a ∈ Ns) (hl : lf P = none) (hxP : ρ x < ρ P) (hlo : ∀ u, lo P = some u → ρ u < ρ x) :
    tmI r Ns' ρ (va_up (va_up lf x none) P (some x)) (va_up rt x none) (va_up pa x (some P)) (va_up lo x (lo P)) (va_up hi x (some P)) := by
  have hd := h.hiL
  obtain ⟨h1, h2, h3, h4, h5, h6, h7, h8, h9, h10, h11⟩ := h
  have hPx : P ≠ x := fun e => hx (e ▸ hP)
  have hgap : ∀ c ∈ Ns, ρ x ≤ ρ c → ρ c < ρ P → False := fun c hc q1 q2 => h7 P hP hl c hc ⟨fun u hu => by have := hlo u hu; omega, fun u hu => by have := ((h4 P hP).2 u hu).2; omega⟩ q2
  refine ⟨hN, ?_, ?_, ?_, ?_, ?_, ?_, ?_, ?_, ?_, ?_⟩
  · simp only [va_up]; grind
  · intro e; exact absurd (h3 e) (by intro q; rw [q] at hP; cases hP)
  · intro a ha; simp only [va_up]; grind
  · intro a ha b hb; simp only [va_up] at hb ⊢; grind
  · intro a ha b hb; simp only [va_up] at hb ⊢; grind
  · intro a ha hn c hc hI
    rcases (hm a).mp ha with rfl | ha
    · intro hca
      rcases (hm c).mp hc with rfl | hc
      · omega
      · have e1 := hI.2 P (va_up_self _ _ _)
        refine h7 P hP hl c hc ⟨fun u hu => hI.1 u ((va_up_self _ _ _).trans hu), fun u hu => ?_⟩ e1
        have := ((h4 P hP).2 u hu).2; omega
    · have hax : a ≠ x := fun e => hx (e ▸ ha)
      have haP : a ≠ P := fun e => by rw [e, va_up_self] at hn; cases hn
      rw [va_up_ne _ _ haP, va_up_ne _ _ hax] at hn
      have hIa : ∀ c, inI ρ (va_up lo x (lo P)) (va_up hi x (some P)) a c → inI ρ lo hi a c := fun c q => ⟨fun u hu => q.1 u ((va_up_ne _ _ hax).trans hu), fun u hu => q.2 u ((va_up_ne _ _ hax).trans hu)⟩
      rcases (hm c).mp hc with rfl | hc
      · intro hca
        have q := hIa _ hI
        rcases Int.lt_trichotomy (ρ a) (ρ P) with z | z | z
        · exact hgap a ha (by omega) z
        · exact haP (h11 a ha P hP z)
        · exact h7 a ha hn P hP ⟨fun u hu => by have := q.1 u hu; omega, fun u hu => by have := ((h4 a ha).2 u hu).2; omega⟩ z
      · exact h7 a ha hn c hc (hIa _ hI)
  · intro a ha hn c hc hI
    rcases (hm a).mp ha with rfl | ha
    · intro hca
      rcases (hm c).mp hc with rfl | hc
      · omega
      · exact hgap c hc (by omega) (hI.2 P (va_up_self _ _ _))
    · have hax : a ≠ x := fun e => hx (e ▸ ha)
      rw [va_up_ne _ _ hax] at hn
      have hIa : ∀ c, inI ρ (va_up lo x (lo P)) (va_up hi x (some P)) a c → inI ρ lo hi a c := fun c q => ⟨fun u hu => q.1 u ((va_up_ne _ _ hax).trans hu), fun u hu => q.2 u ((va_up_ne _ _ hax).trans hu)⟩
      rcases (hm c).mp hc with rfl | hc
      · intro hca
        have q := hIa _ hI
        refine h8 a ha hn P hP ⟨fun u hu => by have := ((h4 a ha).1 u hu).2; omega, fun u hu => ?_⟩ (by omega)
        have e1 := q.2 u hu
        have e2 := ((h4 a ha).2 u hu).1
        rcases Int.lt_trichotomy (ρ u) (ρ P) with z | z | z
        · exact absurd z (fun z => hgap u e2 (by omega) z)
        · have := h11 u e2 P hP z
          subst this
          exact absurd hl ((hd a ha).1 u hu)
        · exact z
      · exact h8 a ha hn c hc (hIa _ hI)
  · intro a ha b hb; simp only [va_up] at hb ⊢; grind
  · intro a ha; simp only [va_up]; grind
  · intro a ha c hc e
    rcases (hm a).mp ha with rfl | ha <;> rcases (hm c).mp hc with rfl | hc
    · rfl
    · exact absurd hxP (fun z => hgap c hc (by omega) (by omega))
    · exact absurd hxP (fun z => hgap a ha (by omega) (by omega))
    · exact h11 a ha c hc e
theorem tmI.insR (h : tmI r Ns ρ lf rt pa lo hi) {P x : Nat} {Ns' : List Nat} (hP : P ∈ Ns) (hx : x ∉ Ns) (hN : Ns'.Nodup) (hm : ∀ a, a ∈ Ns' ↔ a = x ∨ a ∈ Ns) (hl : rt P = none) (hxP : ρ P < ρ x) (hhi : ∀ u, hi P = some u → ρ x < ρ u) :
    tmI r Ns' ρ (va_up lf x none) (va_up (va_up rt x none) P (some x)) (va_up pa x (some P)) (va_up lo x (some P)) (va_up hi x (hi P)) :=
  (h.mir.insL hP hx hN hm hl (by omega) (fun u hu => by have := hhi u hu; omega)).mir2
theorem tmI.one {x : Nat} (h1 : lf x = none) (h2 : rt x = none) (h3 : pa x = none) : tmI (some x) [x] ρ lf rt pa (fun _ => none) (fun _ => none) := by
  refine ⟨by simp, ?_, ?_, ?_, ?_, ?_, ?_, ?_, ?_, ?_, ?_⟩ <;> simp [h1, h2, h3]
theorem tmI.nil : tmI none [] ρ lf rt pa lo hi := by
  refine ⟨by simp, ?_, ?_, ?_, ?_, ?_, ?_, ?_, ?_, ?_, ?_⟩ <;> simp
theorem tmI.del (h : tmI r Ns ρ lf rt pa lo hi) {s : Nat} {Ns' : List Nat} (hs : s ∈ Ns) (hl : lf s = none) (hN : Ns'.Nodup) (hm : ∀ a, a ∈ Ns' ↔ a ∈ Ns ∧ a ≠ s) {r' : Option Nat} {lf' rt' pa' : Nat → Option Nat}
    (hr : r' = if pa s = none then rt s else r) (hlf : ∀ a ∈ Ns', lf' a = if lf a = some s then rt s else lf a) (hrt : ∀ a ∈ Ns', rt' a = if rt a = some s then rt s else rt a) (hpa : ∀ a ∈ Ns', pa' a = if pa a = some s then pa s else pa a) :
    tmI r' Ns' ρ lf' rt' pa' (fun a => if lo a = some s then lo s else lo a) (fun a => if hi a = some s then hi s else hi a) := by
  have hd := h.hiL
  have hself := fun a ha => h.self (a := a) ha
  obtain ⟨h1, h2, h3, h4, h5, h6, h7, h8, h9, h10, h11⟩ := h
  have hno : ∀ a ∈ Ns, hi a ≠ some s := fun a ha e => (hd a ha).1 s e hl
  refine ⟨hN, ?_, ?_, ?_, ?_, ?_, ?_, ?_, ?_, ?_, ?_⟩
  · grind
  · intro e
    rw [hr] at e
    split at e
    · rename_i hp
      obtain ⟨-, -, e3, e4⟩ := h2 s (h10 s hs hp)
      cases hNs : Ns' with
      | nil => rfl
      | cons c l =>
        have hc := (hm c).mp (by rw [hNs]; simp)
        have hI : inI ρ lo hi s c := ⟨fun u hu => (by rw [e3] at hu; cases hu), fun u hu => (by rw [e4] at hu; cases hu)⟩
        have q1 := h7 s hs hl c hc.1 hI
        have q2 := h8 s hs e c hc.1 hI
        exact absurd (h11 c hc.1 s hs (by omega)) hc.2
    · exact absurd (h3 e) (by intro q; rw [q] at hs; cases hs)
  · intro a ha; grind
  · intro a ha b hb; grind
  · intro a ha b hb
    have ha' := (hm a).mp ha
    rw [hrt a ha] at hb
    split at hb
    · rename_i hra
      obtain ⟨-, e2, e3, e4⟩ := h6 a ha'.1 s hra
      obtain ⟨b1, b2, b3, b4⟩ := h6 s hs b hb
      have hbs : b ≠ s := fun e => by have := ((h4 b b1).1 s b3).2; rw [e] at this; omega
      have hb' := (hm b).mpr ⟨b1, hbs⟩
      refine ⟨hb', ?_, ?_, ?_⟩
      · rw [hpa b hb', if_pos b2]; exact e2
      · dsimp only; rw [if_pos b3]; exact e3
      · dsimp only; rw [if_neg (hno b b1), if_neg (hno a ha'.1), b4, e4]
    · rename_i hra
      obtain ⟨b1, b2, b3, b4⟩ := h6 a ha'.1 b hb
      have hbs : b ≠ s := fun e => hra (e ▸ hb)
      have hb' := (hm b).mpr ⟨b1, hbs⟩
      have has : some a ≠ some s := fun q => ha'.2 (Option.some.inj q)
      refine ⟨hb', ?_, ?_, ?_⟩
      · rw [hpa b hb', b2, if_neg has]
      · dsimp only; rw [b3, if_neg has]
      · dsimp only; rw [if_neg (hno b b1), if_neg (hno a ha'.1), b4]
  · intro a ha hn c hc hI hca
    have ha' := (hm a).mp ha
    have hc' := (hm c).mp hc
    rw [hlf a ha] at hn
    split at hn
    · rename_i hla
      obtain ⟨-, -, e3, e4⟩ := h5 a ha'.1 s hla
      have hla2 : lo a ≠ some s := fun q => by have := ((h4 s hs).1 s (e3.trans q)).2; omega
      have hIs : inI ρ lo hi s c := ⟨fun u hu => hI.1 u (by dsimp only; rw [if_neg hla2, ← e3]; exact hu), fun u hu => by rw [e4] at hu; cases hu; exact hca⟩
      have q1 := h7 s hs hl c hc'.1 hIs
      have q2 := h8 s hs hn c hc'.1 hIs
      exact hc'.2 (h11 c hc'.1 s hs (by omega))
    · refine h7 a ha'.1 hn c hc'.1 ⟨fun u hu => ?_, fun u hu => hI.2 u (by dsimp only; rw [if_neg (hno a ha'.1)]; exact hu)⟩ hca
      by_cases hus : u = s
      · subst hus
        refine Int.lt_of_not_ge (fun q => ?_)
        have hIs : inI ρ lo hi u c := ⟨fun v hv => hI.1 v (by dsimp only; rw [if_pos hu]; exact hv), fun v hv => by have := ((h4 u hs).2 v hv).2; omega⟩
        have q1 := h7 u hs hl c hc'.1 hIs
        exact hc'.2 (h11 c hc'.1 u hs (by omega))
      · exact hI.1 u (by dsimp only; rw [if_neg (by rw [hu]; intro q; exact hus (Option.some.inj q))]; exact hu)
  · intro a ha hn c hc hI hca
    have ha' := (hm a).mp ha
    have hc' := (hm c).mp hc
    rw [hrt a ha] at hn
    split at hn
    · rename_i hla
      obtain ⟨-, -, e3, e4⟩ := h6 a ha'.1 s hla
      have hIs : inI ρ lo hi s c := ⟨fun u hu => by rw [e3] at hu; cases hu; exact hca, fun u hu => hI.2 u (by dsimp only; rw [if_neg (hno a ha'.1), ← e4]; exact hu)⟩
      have q1 := h7 s hs hl c hc'.1 hIs
      have q2 := h8 s hs hn c hc'.1 hIs
      exact hc'.2 (h11 c hc'.1 s hs (by omega))
    · refine h8 a ha'.1 hn c hc'.1 ⟨fun u hu => ?_, fun u hu => hI.2 u (by dsimp only; rw [if_neg (hno a ha'.1)]; exact hu)⟩ hca
      by_cases hus : u = s
      · subst hus
        have := ((h4 a ha'.1).1 u hu).2
        omega
      · exact hI.1 u (by dsimp only; rw [if_neg (by rw [hu]; intro q; exact hus (Option.some.inj q))]; exact hu)
  · intro a ha b hb; grind
  · intro a ha; grind
  · intro a ha c hc e
    exact h11 a ((hm a).mp ha).1 c ((hm c).mp hc).1 e
end TM2
