/-! the order of frames; heaps of at most four frames against sorted lists -/
set_option maxRecDepth 100000
def fLt (a b : pqE) : Prop := cmpF a.2 b.2 < 0
theorem fLt_iff {a b : pqE} : fLt a b ↔ (frK a.2).toInt < (frK b.2).toInt ∨ ((frK a.2).toInt = (frK b.2).toInt ∧ a.2.2.2.2.2.toInt < b.2.2.2.2.2.toInt) := by
  unfold fLt cmpF
  by_cases h : frK a.2 = frK b.2
  · rw [if_pos h, cmpI_lt, Int32.lt_iff_toInt_lt, h]
    constructor
    · intro q; exact Or.inr ⟨rfl, q⟩
    · intro q; rcases q with q | q
      · omega
      · exact q.2
  · rw [if_neg h, cmpI_lt, Int32.lt_iff_toInt_lt]
    have h2 : (frK a.2).toInt ≠ (frK b.2).toInt := fun q => h (Int32.toInt_inj.mp q)
    constructor
    · intro q; exact Or.inl q
    · intro q; rcases q with q | q
      · exact q
      · exact absurd q.1 h2
theorem cmpF_pos {a b : pqE} : 0 < cmpF a.2 b.2 ↔ fLt b a := by
  rw [fLt_iff]
  unfold cmpF
  by_cases h : frK a.2 = frK b.2
  · rw [if_pos h, cmpI_gt, Int32.lt_iff_toInt_lt, h]
    constructor
    · intro q; exact Or.inr ⟨rfl, q⟩
    · intro q; rcases q with q | q
      · omega
      · exact q.2
  · rw [if_neg h, cmpI_gt, Int32.lt_iff_toInt_lt]
    have h2 : (frK b.2).toInt ≠ (frK a.2).toInt := fun q => h (Int32.toInt_inj.mp q).symm
    constructor
    · intro q; exact Or.inl q
    · intro q; rcases q with q | q
      · exact q
      · exact absurd q.1 h2
theorem fLt.trans {a b c : pqE} (h1 : fLt a b) (h2 : fLt b c) : fLt a c := by
  rw [fLt_iff] at *; omega
theorem fLt.irr {a : pqE} (h : fLt a a) : False := by rw [fLt_iff] at h; omega
theorem fLt.asy {a b : pqE} (h : fLt a b) (h2 : fLt b a) : False := (h.trans h2).irr
abbrev fCm (a b : pqE) : Prop := fLt a b ∨ fLt b a
theorem fCm.sy {a b : pqE} (h : fCm a b) : fCm b a := Or.symm h
theorem fCm.of {a b : pqE} (h : fCm a b) (hn : ¬ cmpF a.2 b.2 < 0) : fLt b a := h.resolve_left hn
theorem fCm.le {a b : pqE} (h : fCm a b) (hn : cmpF a.2 b.2 ≤ 0) : fLt a b := by
  rcases h with h | h
  · exact h
  · exact absurd (cmpF_pos.mpr h) (Int32.not_lt.mpr hn)
/-- a heap of at most four -/
def pqH (W : List pqE) : Prop := match W with
  | [] => True
  | [_] => True
  | [a, b] => fLt a b
  | [a, b, c] => fLt a b ∧ fLt a c
  | [a, b, c, d] => fLt a b ∧ fLt a c ∧ fLt b d
  | _ => False
theorem pqAdd_perm {W : List pqE} {x : pqE} (h : W.length < 4) : (pqAdd W x).Perm (x :: W) := by
  rw [List.perm_iff_count]
  intro z
  match W, h with
  | [], _ => rfl
  | [a], _ =>
    simp only [pqAdd]
    split <;> (simp only [List.count_cons, List.count_nil]; try omega)
  | [a, b], _ =>
    simp only [pqAdd]
    split <;> (simp only [List.count_cons, List.count_nil]; try omega)
  | [a, b, c], _ =>
    simp only [pqAdd]
    split
    · split <;> (simp only [List.count_cons, List.count_nil]; try omega)
    · simp only [List.count_cons, List.count_nil]; omega
theorem pqAdd_heap {W : List pqE} {x : pqE} (h : W.length < 4) (hH : pqH W) (hc : ∀ a ∈ W, fCm x a) : pqH (pqAdd W x) := by
  match W, h, hH, hc with
  | [], _, _, _ => trivial
  | [a], _, _, hc =>
    simp only [pqAdd]
    split
    · rename_i q; exact q
    · rename_i q; exact (hc a (by simp)).of q
  | [a, b], _, hH, hc =>
    have hab : fLt a b := hH
    simp only [pqAdd]
    split
    · rename_i q; exact ⟨fLt.trans q hab, q⟩
    · rename_i q; exact ⟨hab, (hc a (by simp)).of q⟩
  | [a, b, c], _, hH, hc =>
    have hab : fLt a b := hH.1
    have hac : fLt a c := hH.2
    simp only [pqAdd]
    split
    · rename_i q
      split
      · rename_i q2; exact ⟨q2, fLt.trans q2 hac, hab⟩
      · rename_i q2; exact ⟨(hc a (by simp)).of q2, hac, q⟩
    · rename_i q; exact ⟨hab, hac, (hc b (by simp)).of q⟩
theorem pqH_min {a : pqE} {W : List pqE} (h : pqH (a :: W)) : ∀ b ∈ W, fLt a b := by
  match W, h with
  | [], _ => intro b hb; cases hb
  | [b], h => intro c hc; cases List.mem_singleton.mp hc; exact h
  | [b, c], h =>
    intro d hd
    simp only [List.mem_cons, List.not_mem_nil, or_false] at hd
    rcases hd with rfl | rfl
    · exact h.1
    · exact h.2
  | [b, c, d], h =>
    intro e he
    simp only [List.mem_cons, List.not_mem_nil, or_false] at he
    rcases he with rfl | rfl | rfl
    · exact h.1
    · exact h.2.1
    · exact h.1.trans h.2.2
  | _ :: _ :: _ :: _ :: _, h => exact absurd h id
theorem pqPoll_perm {a : pqE} {W : List pqE} (h : (a :: W).length ≤ 4) : (pqPoll (a :: W)).Perm W := by
  rw [List.perm_iff_count]
  intro z
  match W, h with
  | [], _ => rfl
  | [b], _ => rfl
  | [b, c], _ =>
    simp only [pqPoll]
    split <;> (simp only [List.count_cons, List.count_nil]; try omega)
  | [b, c, d], _ =>
    simp only [pqPoll]
    split
    · split <;> (simp only [List.count_cons, List.count_nil]; try omega)
    · split <;> (simp only [List.count_cons, List.count_nil]; try omega)
  | _ :: _ :: _ :: _ :: _, h => simp only [List.length_cons] at h; omega
theorem pqPoll_heap {a : pqE} {W : List pqE} (h : pqH (a :: W)) (hc : (a :: W).Pairwise fCm) : pqH (pqPoll (a :: W)) := by
  match W, h, hc with
  | [], _, _ => trivial
  | [b], _, _ => trivial
  | [b, c], _, hc =>
    have hbc : fCm c b := by
      simp only [List.pairwise_cons, List.mem_cons, List.not_mem_nil, or_false] at hc
      exact (hc.2.1 c rfl).sy
    simp only [pqPoll]
    split
    · rename_i q; exact hbc.le q
    · rename_i q
      have q : 0 < cmpF c.2 b.2 := Int32.not_le.mp q
      exact cmpF_pos.mp q
  | [b, c, d], h, hc =>
    have hbd : fLt b d := h.2.2
    simp only [List.pairwise_cons, List.mem_cons, List.not_mem_nil, or_false] at hc
    have hbc : fCm b c := hc.2.1 c (Or.inl rfl)
    have hcd : fCm c d := hc.2.2.1 d rfl
    simp only [pqPoll]
    split
    · rename_i q
      have q : fLt c b := cmpF_pos.mp q
      split
      · rename_i q2; exact ((q.trans hbd).asy (hcd.sy.le q2)).elim
      · rename_i q2; exact ⟨q, q.trans hbd⟩
    · rename_i q
      have q : cmpF b.2 c.2 ≤ 0 := Int32.not_lt.mp q
      have q : fLt b c := hbc.le q
      split
      · rename_i q2
        have hdb : fCm d b := Or.inr hbd
        exact (hbd.asy (hdb.le q2)).elim
      · exact ⟨hbd, q⟩
  | _ :: _ :: _ :: _ :: _, h, _ => exact absurd h id
theorem fCm_sorted {V W : List pqE} (hV : V.Pairwise fLt) (hp : V.Perm W) : W.Pairwise fCm :=
  hp.pairwise (hV.imp Or.inl) (fun h => Or.symm h)
theorem srt_head {v a : pqE} {V W : List pqE} (hV : (v :: V).Pairwise fLt) (hH : pqH (a :: W)) (hp : (v :: V).Perm (a :: W)) : v = a := by
  have h1 : v ∈ a :: W := hp.mem_iff.mp (List.mem_cons_self ..)
  have h2 : a ∈ v :: V := hp.mem_iff.mpr (List.mem_cons_self ..)
  rcases List.mem_cons.mp h1 with h1 | h1
  · exact h1
  · rcases List.mem_cons.mp h2 with h2 | h2
    · exact h2.symm
    · exact (fLt.asy (pqH_min hH v h1) ((List.pairwise_cons.mp hV).1 a h2)).elim
theorem pqPolls_spec : ∀ (n : Nat) (W V : List pqE), W.length ≤ 4 → pqH W → V.Perm W → V.Pairwise fLt → (pqPolls W n).head? = V[n]?
  | n, [], V, _, _, hp, _ => by
    have hV : V = [] := List.Perm.eq_nil hp
    subst hV
    have : ∀ n, pqPolls [] n = [] := by
      intro n
      induction n with
      | zero => rfl
      | succ n ih => exact ih
    rw [this]; rfl
  | 0, a :: W, V, hl, hH, hp, hV => by
    match V, hp, hV with
    | [], hp, _ => exact absurd hp.length_eq (by simp)
    | v :: V, hp, hV => rw [srt_head hV hH hp]; rfl
  | n + 1, a :: W, V, hl, hH, hp, hV => by
    match V, hp, hV with
    | [], hp, _ => exact absurd hp.length_eq (by simp)
    | v :: V, hp, hV =>
      have e := srt_head hV hH hp
      subst e
      have hp2 : V.Perm W := hp.cons_inv
      have hpp := pqPoll_perm hl
      show (pqPolls (pqPoll (v :: W)) n).head? = V[n]?
      refine pqPolls_spec n _ V ?_ (pqPoll_heap hH (fCm_sorted hV hp)) (hp2.trans hpp.symm) (List.pairwise_cons.mp hV).2
      rw [hpp.length_eq]
      simp only [List.length_cons] at hl
      omega
theorem pqFilt_spec {P : pqE → Bool} : ∀ (W acc : List pqE), acc.length + W.length ≤ 4 → pqH acc → (acc ++ W).Pairwise fCm → (pqFilt P acc W).Perm (acc ++ W.filter P) ∧ pqH (pqFilt P acc W)
  | [], acc, _, hH, _ => by simp only [pqFilt, List.filter_nil, List.append_nil]; exact ⟨List.Perm.refl _, hH⟩
  | e :: W, acc, hl, hH, hc => by
    simp only [List.length_cons] at hl
    simp only [pqFilt]
    have hc2 := List.pairwise_append.mp hc
    by_cases q : P e = true
    · rw [if_pos q, List.filter_cons_of_pos q]
      have hpe := pqAdd_perm (W := acc) (x := e) (by omega)
      have hpm : (pqAdd acc e ++ W).Perm (acc ++ e :: W) := (hpe.append_right W).trans List.perm_middle.symm
      have h1 := pqFilt_spec (P := P) W (pqAdd acc e) (by rw [hpe.length_eq]; simp only [List.length_cons]; omega) (pqAdd_heap (by omega) hH (fun a ha => (hc2.2.2 a ha e (List.mem_cons_self ..)).sy)) (hpm.symm.pairwise hc (fun h => Or.symm h))
      refine ⟨h1.1.trans ?_, h1.2⟩
      exact (hpe.append_right _).trans List.perm_middle.symm
    · rw [if_neg q, List.filter_cons_of_neg q]
      refine pqFilt_spec (P := P) W acc (by omega) hH ?_
      exact hc.sublist (List.Sublist.append (List.Sublist.refl _) (List.sublist_cons_self _ _))
theorem pqFilt_0 {P : pqE → Bool} {W V : List pqE} (hl : W.length ≤ 4) (hp : V.Perm W) (hV : V.Pairwise fLt) : (V.filter P).Perm (pqFilt P [] W) ∧ pqH (pqFilt P [] W) := by
  have h := pqFilt_spec (P := P) W [] (by simpa using hl) trivial (by simpa using fCm_sorted hV hp)
  refine ⟨?_, h.2⟩
  have h1 := h.1
  simp only [List.nil_append] at h1
  exact (hp.filter P).trans h1.symm
theorem filter_true {α : Type} (W : List α) : W.filter (fun _ => true) = W := List.filter_eq_self.mpr (fun _ _ => rfl)
theorem pqCopy {W V : List pqE} (hl : W.length ≤ 4) (hp : V.Perm W) (hV : V.Pairwise fLt) : V.Perm (pqFilt (fun _ => true) [] W) ∧ pqH (pqFilt (fun _ => true) [] W) := by
  have h := pqFilt_0 (P := fun _ => true) hl hp hV
  rw [filter_true] at h
  exact h
