/-! small laws for the walks -/
set_option maxRecDepth 100000
def bI (b : Bool) : Int32 := if b = true then 1 else 0
theorem bI_n (b : Bool) : narrow .boolean (.int (bI b)) = .int (bI b) := by cases b <;> rfl
theorem bI_t : bI true = 1 := rfl
theorem bI_f : bI false = 0 := rfl
theorem bI_0 {b : Bool} (h : bI b = 0) : b = false := by cases b with | false => rfl | true => exact absurd h (by decide)
theorem bI_1 {b : Bool} (h : ¬ bI b = 0) : b = true := by cases b with | true => rfl | false => exact absurd rfl h
theorem bId_0 {P : Prop} [Decidable P] (h : bI (decide P) = 0) : ¬ P := of_decide_eq_false (bI_0 h)
theorem bId_1 {P : Prop} [Decidable P] (h : ¬ bI (decide P) = 0) : P := of_decide_eq_true (bI_1 h)
theorem bI_d {P : Prop} [Decidable P] (h : P) : (1 : Int32) = bI (decide P) := by rw [decide_eq_true h]; rfl
theorem bI_nd {P : Prop} [Decidable P] (h : ¬ P) : (0 : Int32) = bI (decide P) := by rw [decide_eq_false h]; rfl
theorem bI_eq {P Q : Prop} [Decidable P] [Decidable Q] (h : P ↔ Q) : bI (decide P) = bI (decide Q) := by
  by_cases hp : P
  · rw [decide_eq_true hp, decide_eq_true (h.mp hp)]
  · rw [decide_eq_false hp, decide_eq_false (fun q => hp (h.mpr q))]
theorem gz_n {x : Int32} (h : x = 0 ∨ x = 1) : narrow .boolean (.int x) = .int x := by rcases h with rfl | rfl <;> rfl
def ushr (x y : Int32) : Int32 := (x.toUInt32 >>> (y.toUInt32 &&& Int32.toUInt32 31)).toInt32
theorem nI_a {a b c : Nat} (h : a + b = c) : nI a + nI b = nI c := by rw [nI_add, h]
theorem nI_m {a b c : Nat} (h : a * b = c) : nI a * nI b = nI c := by rw [pk_mul, h]
theorem nI_s {a b c : Nat} (h : c + b = a) : nI a - nI b = nI c := by rw [pk_sub (by omega)]; congr 1; omega
theorem gcat_q {r : Option Nat} : (va_rf r).category = 1 := by cases r <;> rfl
theorem lc_lt {x y : Int64} : lg_cmp x y < 0 ↔ x < y := by
  unfold lg_cmp
  simp only [gt_iff_lt, Int64.lt_iff_toInt_lt, ← Int64.toInt_inj]
  repeat' split
  all_goals (constructor <;> intro hh <;> first | omega | decide | exact absurd hh (by decide))
theorem lc_gt {x y : Int64} : 0 < lg_cmp x y ↔ y < x := by
  unfold lg_cmp
  simp only [gt_iff_lt, Int64.lt_iff_toInt_lt, ← Int64.toInt_inj]
  repeat' split
  all_goals (constructor <;> intro hh <;> first | omega | decide | exact absurd hh (by decide))
theorem isIn_c {x : Int32} {a b : Int64} (a' b' : Int32) (ha : a'.toInt64 = a) (hb : b'.toInt64 = b) : bI (decide (a ≤ x.toInt64 ∧ x.toInt64 ≤ b)) = bI (decide (a' ≤ x ∧ x ≤ b')) := by
  subst ha; subst hb
  exact bI_eq (by rw [Int32.toInt64_le, Int32.toInt64_le])
theorem bI_fit (b : Bool) : fits .boolean (.int (bI b)) = true := by cases b <;> rfl
theorem gz_f {x : Int32} (h : x = 0 ∨ x = 1) : fits .boolean (.int x) = true := by rcases h with rfl | rfl <;> rfl
theorem nn_le {a b : Nat} (ha : a < 2147483648) (hb : b < 2147483648) (h : nI a ≤ nI b) : a ≤ b := (nI_leI ha hb).mp h
theorem nn_lt {a b : Nat} (ha : a < 2147483648) (hb : b < 2147483648) (h : nI a < nI b) : a < b := (nI_ltI ha hb).mp h
theorem nn_eq {a b : Nat} (ha : a < 2147483648) (hb : b < 2147483648) (h : nI a = nI b) : a = b := (nI_eq ha hb).mp h
theorem nn_nle {a b : Nat} (ha : a < 2147483648) (hb : b < 2147483648) (h : ¬ nI a ≤ nI b) : b < a := Nat.lt_of_not_le (fun q => h ((nI_leI ha hb).mpr q))
theorem nn_nlt {a b : Nat} (ha : a < 2147483648) (hb : b < 2147483648) (h : ¬ nI a < nI b) : b ≤ a := Nat.le_of_not_lt (fun q => h ((nI_ltI ha hb).mpr q))
theorem nn_neq {a b : Nat} (ha : a < 2147483648) (hb : b < 2147483648) (h : ¬ nI a = nI b) : ¬ a = b := fun q => h ((nI_eq ha hb).mpr q)
theorem bB_e0 {b : Bool} (h : bI b = 0) : b = false := bI_0 h
theorem bB_n0 {b : Bool} (h : ¬ bI b = 0) : b = true := bI_1 h
theorem bB_e1 {b : Bool} (h : bI b = 1) : b = true := by cases b with | true => rfl | false => exact absurd h (by decide)
theorem bB_n1 {b : Bool} (h : ¬ bI b = 1) : b = false := by cases b with | false => rfl | true => exact absurd rfl h
def byF (rm : Bool) (ln : Nat) : Nat := if rm = true then 0 else 8 * ln
theorem byF_le {rm : Bool} {ln : Nat} (h : ln ≤ 4) : byF rm ln ≤ 32 := by unfold byF; split <;> omega
theorem g_tblI {p : Program} {l : Launch} {e : Env} {R : Room} {s : State} {m : MethodId} {args : Array Value} {below : List Frame} {meth : Method} {c : Code} {G : gG} {nL : Nat} {Q : State → Prop} {cells slots : Nat} {M : gM} {pc : Nat} {lv : List (Nat × Value)} {st : List Value} {cc : ByteArray} {own nm : String} {ret : Option FieldType} (hC : gC p s m args meth c G nL cc own nm ret) {dflt lo hi : Int} {offs : Array Int} {len : Nat} {x : Int32} {off : Int} (hd : decode cc pc = .ok (.tableswitch dflt lo hi offs, len)) (h1 : ¬ x.toInt < lo) (h2 : ¬ hi < x.toInt) (ho : offs[(x.toInt - lo).toNat]? = some off) (tgt : Nat) (ht : (pc : Int) + off = (tgt : Int)) (k : gJ p l e R s m args below meth c G nL Q cells slots M tgt lv st) : gJ p l e R s m args below meth c G nL Q cells slots M pc lv (.int x :: st) := fun H locs ls hW hS hl => lv_tableIn hC.hx hC.hb hd h1 h2 ho ht (k H locs ls hW hS hl)
theorem g_tblO {p : Program} {l : Launch} {e : Env} {R : Room} {s : State} {m : MethodId} {args : Array Value} {below : List Frame} {meth : Method} {c : Code} {G : gG} {nL : Nat} {Q : State → Prop} {cells slots : Nat} {M : gM} {pc : Nat} {lv : List (Nat × Value)} {st : List Value} {cc : ByteArray} {own nm : String} {ret : Option FieldType} (hC : gC p s m args meth c G nL cc own nm ret) {dflt lo hi : Int} {offs : Array Int} {len : Nat} {x : Int32} (hd : decode cc pc = .ok (.tableswitch dflt lo hi offs, len)) (h : x.toInt < lo ∨ hi < x.toInt) (tgt : Nat) (ht : (pc : Int) + dflt = (tgt : Int)) (k : gJ p l e R s m args below meth c G nL Q cells slots M tgt lv st) : gJ p l e R s m args below meth c G nL Q cells slots M pc lv (.int x :: st) := fun H locs ls hW hS hl => lv_tableOut hC.hx hC.hb hd h ht (k H locs ls hW hS hl)
theorem nI_d {a c : Nat} (h : c + 1 = a) : nI a + (-1) = nI c := by subst h; exact pk_m1 c
theorem nk_in {k : Nat} (h : k < 4) : 0 ≤ nI k ∧ nI k ≤ 3 := by
  rcases (show k = 0 ∨ k = 1 ∨ k = 2 ∨ k = 3 by omega) with rfl | rfl | rfl | rfl <;> decide
theorem nk_of {x : Int32} (h : 0 ≤ x ∧ x ≤ 3) : ∃ k : Nat, k < 4 ∧ x = nI k := by
  obtain ⟨j, h1, h2⟩ := nI_of2 (M := 3) (n := 3) (by decide) (fun q => absurd h.1 (Int32.not_le.mpr q)) h.2
  exact ⟨j, by omega, h2⟩
theorem bF_nt {b : Bool} (h : b = false) : ¬ b = true := by rw [h]; decide
theorem g_lv {p : Program} {l : Launch} {e : Env} {R : Room} {s : State} {m : MethodId} {args : Array Value} {below : List Frame} {meth : Method} {c : Code} {G : gG} {nL : Nat} {Q : State → Prop} {cells slots : Nat} {M : gM} {pc : Nat} {lv lv' : List (Nat × Value)} {st : List Value} (h : lv = lv') (k : gJ p l e R s m args below meth c G nL Q cells slots M pc lv' st) : gJ p l e R s m args below meth c G nL Q cells slots M pc lv st := by subst h; exact k
theorem g_st {p : Program} {l : Launch} {e : Env} {R : Room} {s : State} {m : MethodId} {args : Array Value} {below : List Frame} {meth : Method} {c : Code} {G : gG} {nL : Nat} {Q : State → Prop} {cells slots : Nat} {M : gM} {pc : Nat} {lv : List (Nat × Value)} {st st' : List Value} (h : st = st') (k : gJ p l e R s m args below meth c G nL Q cells slots M pc lv st') : gJ p l e R s m args below meth c G nL Q cells slots M pc lv st := by subst h; exact k
