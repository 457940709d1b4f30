/-! the reference's functions write within their node's block -/
set_option maxRecDepth 100000
def loc (k : Nat) (F f : Nat → Int32) : Prop := ∀ j, (j < 256 * k ∨ 256 * k + 256 ≤ j) → F j = f j
theorem loc.rf {k : Nat} {f : Nat → Int32} : loc k f f := fun _ _ => rfl
theorem loc.trans {k : Nat} {F g f : Nat → Int32} (h1 : loc k F g) (h2 : loc k g f) : loc k F f := fun j h => (h1 j h).trans (h2 j h)
theorem loc.u {k i : Nat} {F f : Nat → Int32} {x : Int32} (h : loc k F f) (h1 : 256 * k ≤ i) (h2 : i < 256 * k + 256) : loc k (upd F i x) f := fun j hj => (pk_un (by omega)).trans (h j hj)
theorem loc.c {k : Nat} {F f g : Nat → Int32} {P : Prop} [Decidable P] (h1 : loc k F f) (h2 : loc k g f) : loc k (if P then F else g) f := by split <;> assumption
theorem loc_rel {k : Nat} {F f : Nat → Int32} (h : loc k F f) : loc k (T_rel F k) f := ((((h.u (by omega) (by omega)).u (by omega) (by omega)).u (by omega) (by omega)).u (by omega) (by omega))
theorem loc_goes {k : Nat} {F f : Nat → Int32} {x : Int32} (h : loc k F f) : loc k (T_goes F k x) f := by
  unfold T_goes
  refine loc.u ?_ (by omega) (by omega)
  have h1 : loc k (upd (upd (upd F (256 * k) x) (256 * k + 2) 0) (256 * k + 3) 0) f := ((h.u (by omega) (by omega)).u (by omega) (by omega)).u (by omega) (by omega)
  have h2 := h1.u (i := 256 * k + 1) (x := 0) (by omega) (by omega)
  exact (loc.c (h1.c h2) (loc_rel (h1.c h2)))
theorem loc_recv {k : Nat} {F f : Nat → Int32} {x : Int32} (h : loc k F f) : loc k (T_recv F k x) f := h.u (by omega) (by omega)
theorem loc_errs {k kd : Nat} {F f : Nat → Int32} (h : loc k F f) (hkd : kd ≤ 5) : loc k (T_errs F k kd) f := by
  unfold T_errs
  have h1 := (h.u (i := 256 * k + kd + 5) (x := F (256 * k + kd + 5) + 1) (by omega) (by omega)).u (i := 256 * k + 11) (x := nI kd) (by omega) (by omega)
  have h2 := fun x => h1.u (i := 256 * k + 4) (x := x) (by omega) (by omega)
  refine loc.c (loc_goes ?_) (loc.u (loc_goes ?_) (by omega) (by omega))
  · exact loc.c (loc.c h1 (h2 _)) (loc_recv h1)
  · exact loc.c (loc.c h1 (h2 _)) (loc_recv h1)
theorem loc_bits {k fr mn : Nat} {F f : Nat → Int32} {x : Int32} (h : loc k F f) : ∀ (n : Nat), 256 * k ≤ fr → fr + n ≤ 256 * k + 256 → loc k (bitsT F fr x mn n) f
  | 0, _, _ => h
  | n + 1, h1, h2 => (loc_bits h n h1 (by omega)).u (by omega) (by omega)
theorem loc_lays {k ln : Nat} {rm : Bool} {F f : Nat → Int32} {id da : Int32} (h : loc k F f) (hl : ln ≤ 4) : loc k (laysT F (256 * k + 160) id rm ln da) f := by
  unfold laysT
  have hb := byF_le (rm := rm) hl
  refine loc_bits ?_ 15 (by omega) (by omega)
  refine loc_bits ?_ _ (by omega) (by omega)
  refine loc_bits ?_ 4 (by omega) (by omega)
  refine loc.u (loc.u (loc.u ?_ (by omega) (by omega)) (by omega) (by omega)) (by omega) (by omega)
  refine loc_bits ?_ 11 (by omega) (by omega)
  exact h.u (by omega) (by omega)
theorem loc_beg {k ln : Nat} {tr rm : Bool} {F f : Nat → Int32} (h : loc k F f) (hl : ln ≤ 4) : loc k (T_beg F k tr rm ln) f := by
  unfold T_beg
  have h1 := (loc_goes h (x := 4)).u (i := 256 * k + 1) (x := if tr = true then 1 else 0) (by omega) (by omega)
  have h2 := ((((h1.u (i := 256 * k + 19) (x := 1) (by omega) (by omega)).u (i := 256 * k + 90) (x := 0) (by omega) (by omega)).u (i := 256 * k + 20) (x := 1) (by omega) (by omega)).u (i := 256 * k + 21) (x := 0) (by omega) (by omega)).u (i := 256 * k + 22) (x := -1) (by omega) (by omega)
  exact loc.c (loc_lays ((loc_rel h2).u (by omega) (by omega)) hl) (loc_rel h2)
theorem loc_cp {k d a : Nat} {F f : Nat → Int32} (h : loc k F f) : ∀ (n : Nat), 256 * k ≤ a → a + n ≤ 256 * k + 256 → loc k (cpT F d a n) f
  | 0, _, _ => h
  | n + 1, h1, h2 => (loc_cp h n h1 (by omega)).u (by omega) (by omega)
theorem loc_unw {k ix nw : Nat} {F f : Nat → Int32} (h : loc k F f) (h1 : ix ≤ 3) (h2 : nw ≤ 3) : loc k (T_unw F k ix nw) f := (((loc_cp h _ (by omega) (by omega)).u (by omega) (by omega)).u (by omega) (by omega))
theorem loc_sh {k i : Nat} {F f : Nat → Int32} (h : loc k F f) (hi : i ≤ 3) : loc k (shT F k i) f := ((((h.u (by omega) (by omega)).u (by omega) (by omega)).u (by omega) (by omega)).u (by omega) (by omega)).u (by omega) (by omega)
theorem loc_wt {k : Nat} {key : Int32} {f : Nat → Int32} : ∀ (i : Nat) (F : Nat → Int32), i ≤ 4 → loc k F f → loc k (wtT k key i F).1 f ∧ (wtT k key i F).2 ≤ i
  | 0, F, _, h => ⟨h, Nat.le_refl _⟩
  | i + 1, F, hi, h => by
    unfold wtT
    split
    · exact ⟨h, Nat.le_refl _⟩
    · have := loc_wt (key := key) i (shT F k i) (by omega) (loc_sh h (by omega))
      exact ⟨this.1, by omega⟩
theorem loc_waits {k nw : Nat} {id rm ln da : Int32} {F f : Nat → Int32} (h : loc k F f) (hn : nw ≤ 3) : loc k (T_waits F k id rm ln da nw) f := by
  unfold T_waits
  have hw := loc_wt (key := 2 * id + rm) nw F (by omega) h
  exact (((((hw.1.u (by omega) (by omega)).u (by omega) (by omega)).u (by omega) (by omega)).u (by omega) (by omega)).u (by omega) (by omega)).u (by omega) (by omega)
theorem loc_ends {k sx nw : Nat} {sm : Int32} {F f : Nat → Int32} (h : loc k F f) (h1 : sx ≤ 3) (h2 : nw ≤ 3) : loc k (T_ends F k sm sx nw) f := by
  unfold T_ends
  exact loc.c (loc.c (loc_errs h (by omega)) (loc_goes h)) (loc.c (loc_goes (((loc_unw h h1 h2).u (by omega) (by omega)).u (by omega) (by omega))) (loc_goes h))
theorem loc_stE {k : Nat} {sm xs la : Int32} {F f : Nat → Int32} (h : loc k F f) : loc k (T_stE F k sm xs la) f := by
  unfold T_stE
  have h1 := fun x => (h.u (i := 256 * k + 20) (x := x) (by omega) (by omega)).u (i := 256 * k + 21) (x := sm) (by omega) (by omega)
  exact loc.c ((h1 _).u (by omega) (by omega)) (h1 _)
theorem loc_stC {k b : Nat} {sm la : Int32} {F f : Nat → Int32} (h : loc k F f) (hb : b ≤ 66) : loc k (T_stC F k sm la b) f := by
  unfold T_stC
  have h1 := fun x => (h.u (i := 256 * k + b + 90) (x := sm) (by omega) (by omega)).u (i := 256 * k + 19) (x := x) (by omega) (by omega)
  exact loc.c (loc_errs (h1 _) (by omega)) (loc_stE (h1 _))
theorem loc_stuffed {k b : Nat} {sm : Int32} {F f : Nat → Int32} (h : loc k F f) (hb : b ≤ 66) : loc k (T_stuffed F k sm b) f := by
  unfold T_stuffed
  refine loc.c (loc.c (loc_errs h (by omega)) (loc.c (loc_errs h (by omega)) (loc_stE h))) (loc.c (loc.c (loc_errs h (by omega)) ?_) (loc_stC h hb))
  exact loc_stC (loc_rel ((h.u (by omega) (by omega)).u (by omega) (by omega))) hb
theorem loc_got {k nr ln : Nat} {id : Int32} {F f : Nat → Int32} (h : loc k F f) (hn : nr ≤ 6) : loc k (T_got F k nr ln id) f := by
  unfold T_got
  split
  · exact h.u (by omega) (by omega)
  · exact ((((h.u (by omega) (by omega)).u (by omega) (by omega)).u (by omega) (by omega)).u (by omega) (by omega)).u (by omega) (by omega)
theorem loc_acc {k na nw nr ln : Nat} {F f : Nat → Int32} (h : loc k F f) (h2 : nr ≤ 6) : loc k (T_acc F k na nw nr ln) f := by
  unfold T_acc
  have h1 := h.u (i := 256 * k + 5) (x := T_acR F k) (by omega) (by omega)
  refine loc.c (loc.c ?_ (loc_got h1 h2)) h1
  split
  · exact loc_waits h1 (by omega)
  · exact h1
theorem loc_tails {k na nw nr ln sx ns nb : Nat} {sm : Int32} {F f : Nat → Int32} (h : loc k F f) (h2 : nr ≤ 6) (h3 : sx ≤ 3) (h4 : ns ≤ 3) : loc k (T_tails F k sm na nw nr ln sx ns nb) f := by
  unfold T_tails
  have h1 := h.u (i := 256 * k + 22) (x := F (256 * k + 22) + 1) (by omega) (by omega)
  exact loc.c (loc.c (loc_errs h1 (by omega)) h1) (loc.c (loc_ends h1 h3 h4) (loc.c (loc.c (loc_errs h1 (by omega)) (loc_errs h1 (by omega))) (loc.c (loc_errs h1 (by omega)) (loc.c (loc_acc h1 h2) h1))))
theorem loc_acts {k : Nat} {sm : Int32} {f : Nat → Int32} (hok : okN f k) : loc k (T_acts f k sm) f := by
  obtain ⟨⟨hph, hp10⟩, ⟨hB, hb⟩, hnb, hT0, ⟨hna, hna4⟩, ⟨hnw, hnw4⟩, ⟨hnr, hnr6⟩, hl4, hsl, hs1, hlw4, hw⟩ := hok
  have h : loc k f f := loc.rf
  have hu := fun (i : Nat) (x : Int32) (h1 : 256 * k ≤ i) (h2 : i < 256 * k + 256) => h.u (x := x) h1 h2
  unfold T_acts
  refine loc.c ?_ (loc.c (loc.c (loc_stuffed h hb) (loc_tails h hnr6 nSx_le (by omega))) (loc.c ?_ (loc.c ?_ (loc.c ?_ (loc.c ?_ (loc.c ?_ (loc.c ?_ (loc.c ?_ h))))))))
  · unfold T_idles
    exact loc.c (loc.c (loc_beg h hlw4) (loc_errs (h.u (by omega) (by omega)) (by omega))) (loc.c (loc_beg h hlw4) h)
  · unfold T_flags
    have h1 := h.u (i := 256 * k + 2) (x := f (256 * k + 2) + 1) (by omega) (by omega)
    exact loc.c ((loc_goes h1).u (by omega) (by omega)) h1
  · unfold T_flags
    have h1 := h.u (i := 256 * k + 2) (x := f (256 * k + 2) + 1) (by omega) (by omega)
    exact loc.c ((loc_goes h1).u (by omega) (by omega)) h1
  · unfold T_delim
    have h1 := h.u (i := 256 * k + 3) (x := 0) (by omega) (by omega)
    have h2 := fun x => h1.u (i := 256 * k + 2) (x := x) (by omega) (by omega)
    exact loc.c (loc.c (loc_goes (h2 _)) (h2 _)) (loc.c (loc.c (loc_recv h1) h1) (loc.c (loc_errs h1 (by omega)) (loc_goes h1)))
  · unfold T_inter
    have h1 := h.u (i := 256 * k + 2) (x := f (256 * k + 2) + 1) (by omega) (by omega)
    exact loc.c (loc.c (loc_goes h1) h1) (loc.c (loc_beg h1 (by omega)) (loc.c (loc_goes h1) (loc_goes h1)))
  · unfold T_susp
    have h1 := h.u (i := 256 * k + 2) (x := f (256 * k + 2) + 1) (by omega) (by omega)
    exact loc.c (loc_beg h1 (by omega)) (loc.c (loc_goes h1) h1)
  · unfold T_join
    have h1 := fun x => h.u (i := 256 * k + 2) (x := x) (by omega) (by omega)
    exact loc.c (loc_goes (h1 _)) (h1 _)
  · unfold T_recov
    have h1 := fun x => h.u (i := 256 * k + 2) (x := x) (by omega) (by omega)
    have h2 := fun x y => ((h1 x).u (i := 256 * k + 2) (x := 0) (by omega) (by omega)).u (i := 256 * k + 3) (x := y) (by omega) (by omega)
    refine loc.c (loc.c (h2 _ _) (loc_goes (((h2 _ _).u (by omega) (by omega)).u (by omega) (by omega)))) (h1 _)
