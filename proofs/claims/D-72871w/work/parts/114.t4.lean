/-! sorted lists of entries: insertion, removal -/
set_option maxRecDepth 100000
theorem i32ir (x : Int32) : ¬ x < x := fun h => Int32.lt_irrefl h
def tput : List (Int32 × Nat) → Int32 → Nat → List (Int32 × Nat)
  | [], k, v => [(k, v)]
  | e :: C, k, v => if e.1 < k then e :: tput C k v else if e.1 = k then (k, v) :: C else (k, v) :: e :: C
def trem (C : List (Int32 × Nat)) (k : Int32) : List (Int32 × Nat) := C.filter (fun e => decide (e.1 ≠ k))
def tget (C : List (Int32 × Nat)) (k : Int32) : Option Nat := (C.find? (fun e => decide (e.1 = k))).map Prod.snd
def tmIns (Ns : List Nat) (ky : Nat → Int32) (k : Int32) (x : Nat) : List Nat := Ns.takeWhile (fun a => decide (ky a < k)) ++ x :: Ns.dropWhile (fun a => decide (ky a < k))
section TM4
variable {Ns : List Nat} {ky : Nat → Int32} {vl : Nat → Nat} {k : Int32} {x v : Nat}
theorem tmIns_cons {a : Nat} : tmIns (a :: Ns) ky k x = if ky a < k then a :: tmIns Ns ky k x else x :: a :: Ns := by
  unfold tmIns
  by_cases h : ky a < k
  · rw [if_pos h, List.takeWhile_cons, List.dropWhile_cons]; simp [h]
  · rw [if_neg h, List.takeWhile_cons, List.dropWhile_cons]; simp [h]
theorem tmIns_mem : (Ns : List Nat) → (a : Nat) → (a ∈ tmIns Ns ky k x ↔ a = x ∨ a ∈ Ns)
  | [], a => by simp [tmIns]
  | b :: Ns, a => by
    rw [tmIns_cons]
    split
    · rw [List.mem_cons, tmIns_mem Ns a, List.mem_cons]
      constructor
      · rintro (h | h | h) <;> simp [h]
      · rintro (h | h | h) <;> simp [h]
    · simp only [List.mem_cons]
theorem tmIns_nodup : (Ns : List Nat) → x ∉ Ns → Ns.Nodup → (tmIns Ns ky k x).Nodup
  | [], _, _ => by simp [tmIns]
  | b :: Ns, hx, hn => by
    rw [tmIns_cons]
    have hn' := List.nodup_cons.mp hn
    split
    · refine List.nodup_cons.mpr ⟨fun q => ?_, tmIns_nodup Ns (fun q => hx (by simp [q])) hn'.2⟩
      rcases (tmIns_mem Ns b).mp q with rfl | q
      · exact hx (by simp)
      · exact hn'.1 q
    · exact List.nodup_cons.mpr ⟨hx, hn⟩
theorem tmIns_len : (Ns : List Nat) → (tmIns Ns ky k x).length = Ns.length + 1
  | [] => rfl
  | b :: Ns => by
    rw [tmIns_cons]
    split
    · rw [List.length_cons, tmIns_len Ns]; rfl
    · rfl
theorem tmIns_sorted : (Ns : List Nat) → x ∉ Ns → tmS Ns ky → (∀ a ∈ Ns, ky a ≠ k) → tmS (tmIns Ns ky k x) (va_up ky x k)
  | [], _, _, _ => by simp [tmIns]
  | b :: Ns, hx, hs, hk => by
    rw [tmIns_cons]
    have hs' := List.pairwise_cons.mp hs
    have hbx : b ≠ x := fun e => hx (by simp [e])
    have hne : ∀ a ∈ b :: Ns, va_up ky x k a = ky a := fun a ha => va_up_ne _ _ (fun e => hx (e ▸ ha))
    split
    · rename_i hb
      refine List.pairwise_cons.mpr ⟨fun a ha => ?_, tmIns_sorted Ns (fun q => hx (by simp [q])) hs'.2 (fun a ha => hk a (by simp [ha]))⟩
      rw [va_up_ne _ _ hbx]
      rcases (tmIns_mem Ns a).mp ha with rfl | ha
      · rw [va_up_self]; exact hb
      · rw [hne a (by simp [ha])]; exact hs'.1 a ha
    · rename_i hb
      have hkb : k < ky b := Int32.lt_of_le_of_ne (Int32.not_lt.mp hb) (fun e => hk b (by simp) e.symm)
      refine List.pairwise_cons.mpr ⟨fun a ha => ?_, ?_⟩
      · rw [va_up_self, hne a ha]
        rcases List.mem_cons.mp ha with rfl | ha
        · exact hkb
        · exact Int32.lt_trans hkb (hs'.1 a ha)
      · refine List.Pairwise.imp_of_mem (fun {c d} hc hd q => ?_) hs
        rw [hne c hc, hne d hd]; exact q
theorem tmIns_map : (Ns : List Nat) → x ∉ Ns → (∀ a ∈ Ns, ky a ≠ k) → (tmIns Ns ky k x).map (fun a => (va_up ky x k a, va_up vl x v a)) = tput (Ns.map (fun a => (ky a, vl a))) k v
  | [], _, _ => by simp [tmIns, tput, va_up_self]
  | b :: Ns, hx, hk => by
    have hbx : b ≠ x := fun e => hx (by simp [e])
    rw [tmIns_cons, List.map_cons, tput]
    split
    · rename_i hb
      rw [List.map_cons, tmIns_map Ns (fun q => hx (by simp [q])) (fun a ha => hk a (by simp [ha])), va_up_ne _ _ hbx, va_up_ne _ _ hbx]
    · rename_i hb
      rw [if_neg (hk b (by simp)), List.map_cons, va_up_self, va_up_self]
      show _ = (k, v) :: List.map (fun a => (ky a, vl a)) (b :: Ns)
      congr 1
      apply List.map_congr_left
      intro a ha
      have hax : a ≠ x := fun e => hx (e ▸ ha)
      rw [va_up_ne _ _ hax, va_up_ne _ _ hax]
theorem tput_rep : (Ns : List Nat) → tmS Ns ky → {a0 : Nat} → a0 ∈ Ns → ky a0 = k → Ns.map (fun a => (ky a, va_up vl a0 v a)) = tput (Ns.map (fun a => (ky a, vl a))) k v
  | b :: Ns, hs, a0, ha, hk => by
    have hs' := List.pairwise_cons.mp hs
    rw [List.map_cons, List.map_cons, tput]
    rcases List.mem_cons.mp ha with rfl | ha
    · rw [if_neg (by rw [hk]; exact i32ir _), if_pos hk, va_up_self, hk]
      congr 1
      apply List.map_congr_left
      intro a h
      have : a ≠ a0 := fun e => by have := hs'.1 a h; rw [e] at this; exact i32ir _ this
      rw [va_up_ne _ _ this]
    · have h1 := hs'.1 a0 ha
      rw [hk] at h1
      have hne : b ≠ a0 := fun e => by have := hs'.1 a0 ha; rw [e] at this; exact i32ir _ this
      rw [if_pos h1, va_up_ne _ _ hne, tput_rep Ns hs'.2 ha hk]
theorem tsplit {p0 s : Nat} (hs : tmS Ns ky) (hp : p0 ∈ Ns) (h : tmH Ns ky (ky p0) = some s) : ∃ A B, Ns = A ++ p0 :: s :: B := by
  obtain ⟨A, R, rfl⟩ := List.append_of_mem hp
  refine ⟨A, ?_⟩
  have hs1 := List.pairwise_append.mp hs
  unfold tmH at h
  rw [List.find?_append, List.find?_eq_none.mpr (fun a ha => by have := hs1.2.2 a ha p0 (by simp); simpa using Int32.le_of_lt this), Option.none_or, List.find?_cons, show decide (ky p0 < ky p0) = false from decide_eq_false (i32ir _)] at h
  cases R with
  | nil => cases h
  | cons c B =>
    rw [List.find?_cons, show decide (ky p0 < ky c) = true from decide_eq_true ((List.pairwise_cons.mp hs1.2.1).1 c (by simp))] at h
    cases h
    exact ⟨B, rfl⟩
theorem trem_own {p0 : Nat} (hs : tmS Ns ky) (hp : p0 ∈ Ns) : (Ns.filter (fun a => decide (a ≠ p0))).map (fun a => (ky a, vl a)) = trem (Ns.map (fun a => (ky a, vl a))) (ky p0) := by
  unfold trem
  rw [List.filter_map]
  congr 1
  apply List.filter_congr
  intro a ha
  simp only [Function.comp]
  congr 1
  rw [eq_iff_iff]
  constructor
  · intro h e
    have hinj : ∀ a ∈ Ns, ∀ b ∈ Ns, ky a = ky b → a = b := by
      intro a ha b hb e
      rcases List.pairwise_iff_getElem.mp hs with hg
      obtain ⟨i, hi, rfl⟩ := List.getElem_of_mem ha
      obtain ⟨j, hj, rfl⟩ := List.getElem_of_mem hb
      rcases Nat.lt_trichotomy i j with h | h | h
      · have := hg i j hi hj h; rw [e] at this; exact absurd this (i32ir _)
      · subst h; rfl
      · have := hg j i hj hi h; rw [e] at this; exact absurd this (i32ir _)
    exact h (hinj a ha p0 hp e)
  · intro h e
    exact h (by rw [e])
theorem trem_succ {p0 s : Nat} (hs : tmS Ns ky) (hN : Ns.Nodup) (hp : p0 ∈ Ns) (h : tmH Ns ky (ky p0) = some s) : (Ns.filter (fun a => decide (a ≠ s))).map (fun a => (va_up ky p0 (ky s) a, va_up vl p0 (vl s) a)) = trem (Ns.map (fun a => (ky a, vl a))) (ky p0) := by
  rw [← trem_own (vl := vl) hs hp]
  obtain ⟨A, B, rfl⟩ := tsplit hs hp h
  have hn := List.nodup_append.mp hN
  have hn2 := List.nodup_cons.mp hn.2.1
  have hn3 := List.nodup_cons.mp hn2.2
  have hps : p0 ≠ s := fun e => hn2.1 (by simp [e])
  have hA1 : ∀ a ∈ A, a ≠ p0 := fun a ha e => hn.2.2 a ha p0 (by simp) e
  have hA2 : ∀ a ∈ A, a ≠ s := fun a ha e => hn.2.2 a ha s (by simp) e
  have hB1 : ∀ a ∈ B, a ≠ p0 := fun a ha e => hn2.1 (by simp [← e, ha])
  have hB2 : ∀ a ∈ B, a ≠ s := fun a ha e => hn3.1 (e ▸ ha)
  have f1 : ∀ l : List Nat, (∀ a ∈ l, a ≠ s) → l.filter (fun a => decide (a ≠ s)) = l := fun l hl => List.filter_eq_self.mpr (fun a ha => by simpa using hl a ha)
  have f2 : ∀ l : List Nat, (∀ a ∈ l, a ≠ p0) → l.filter (fun a => decide (a ≠ p0)) = l := fun l hl => List.filter_eq_self.mpr (fun a ha => by simpa using hl a ha)
  have m1 : ∀ l : List Nat, (∀ a ∈ l, a ≠ p0) → l.map (fun a => (va_up ky p0 (ky s) a, va_up vl p0 (vl s) a)) = l.map (fun a => (ky a, vl a)) := fun l hl => List.map_congr_left (fun a ha => by rw [va_up_ne _ _ (hl a ha), va_up_ne _ _ (hl a ha)])
  rw [List.filter_append, List.filter_append, f1 A hA2, f2 A hA1, List.filter_cons, List.filter_cons, List.filter_cons, List.filter_cons]
  rw [if_pos (by simpa using hps), if_neg (by simp), if_neg (by simp), if_pos (by simpa using Ne.symm hps), f1 B hB2, f2 B hB1]
  rw [List.map_append, List.map_append, m1 A hA1, List.map_cons, List.map_cons, m1 B hB1, va_up_self, va_up_self]
theorem tmS_filter {P : Nat → Bool} (hs : tmS Ns ky) : tmS (Ns.filter P) ky := hs.sublist List.filter_sublist
theorem tmS_succ {p0 s : Nat} (hs : tmS Ns ky) (hN : Ns.Nodup) (hp : p0 ∈ Ns) (h : tmH Ns ky (ky p0) = some s) : tmS (Ns.filter (fun a => decide (a ≠ s))) (va_up ky p0 (ky s)) := by
  obtain ⟨A, B, rfl⟩ := tsplit hs hp h
  have hn := List.nodup_append.mp hN
  have hn2 := List.nodup_cons.mp hn.2.1
  have hn3 := List.nodup_cons.mp hn2.2
  have hps : p0 ≠ s := fun e => hn2.1 (by simp [e])
  have hA1 : ∀ a ∈ A, a ≠ p0 := fun a ha e => hn.2.2 a ha p0 (by simp) e
  have hA2 : ∀ a ∈ A, a ≠ s := fun a ha e => hn.2.2 a ha s (by simp) e
  have hB1 : ∀ a ∈ B, a ≠ p0 := fun a ha e => hn2.1 (by simp [← e, ha])
  have hB2 : ∀ a ∈ B, a ≠ s := fun a ha e => hn3.1 (e ▸ ha)
  have f1 : ∀ l : List Nat, (∀ a ∈ l, a ≠ s) → l.filter (fun a => decide (a ≠ s)) = l := fun l hl => List.filter_eq_self.mpr (fun a ha => by simpa using hl a ha)
  rw [List.filter_append, f1 A hA2, List.filter_cons, List.filter_cons, if_pos (by simpa using hps), if_neg (by simp), f1 B hB2]
  have h1 := List.pairwise_append.mp hs
  have h2 := List.pairwise_cons.mp h1.2.1
  have h3 := List.pairwise_cons.mp h2.2
  refine List.pairwise_append.mpr ⟨?_, List.pairwise_cons.mpr ⟨fun a ha => ?_, ?_⟩, fun a ha b hb => ?_⟩
  · exact List.Pairwise.imp_of_mem (fun {c d} hc hd q => by rw [va_up_ne _ _ (hA1 c hc), va_up_ne _ _ (hA1 d hd)]; exact q) h1.1
  · rw [va_up_self, va_up_ne _ _ (hB1 a ha)]; exact h3.1 a ha
  · exact List.Pairwise.imp_of_mem (fun {c d} hc hd q => by rw [va_up_ne _ _ (hB1 c hc), va_up_ne _ _ (hB1 d hd)]; exact q) h3.2
  · rw [va_up_ne _ _ (hA1 a ha)]
    rcases List.mem_cons.mp hb with rfl | hb
    · rw [va_up_self]; exact h1.2.2 a ha s (by simp)
    · rw [va_up_ne _ _ (hB1 b hb)]; exact h1.2.2 a ha b (by simp [hb])
end TM4
