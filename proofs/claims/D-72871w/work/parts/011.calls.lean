/-! CALLS -/
set_option maxRecDepth 100000
section GJC
variable {p : Program} {l : Launch} {e : Env} {R : Room} {s : State} {m : MethodId} {args : Array Value} {below : List Frame} {meth : Method} {c : Code} {G : gG} {nL : Nat} {Q : State → Prop} {cells slots : Nat} {M : gM} {pc : Nat} {lv : List (Nat × Value)} {st : List Value} {cc : ByteArray} {own nm : String} {ret : Option FieldType}
theorem gStand {T : State} {locs : List Loc} {k : Nat} (X : Stand p l e R s m args below meth c T locs cells slots) (h : T.heap.size ≤ s.heap.size + k) : Stand p l e R s m args below meth c T locs k slots := { X with same := ⟨X.same.1, X.same.2.1, h, X.same.2.2.2⟩ }
def gRun (p : Program) (l : Launch) (e : Env) (R : Room) (s : State) (m : MethodId) (args : Array Value) (below : List Frame) (meth : Method) (c : Code) (G : gG) (nL : Nat) (cells slots mc ms : Nat) (M : gM) (pc : Nat) (lv : List (Nat × Value)) (st0 rest : List Value) (Qa : State → Outcome → State → Prop) : Prop :=
  ∀ (H : Heap) (locs : List Loc) (ls : Array Slot), gW G M H → va_S (gA G) s.heap H locs → lv_has ls nL lv → va_Run p l e R s m args below meth c H locs cells slots mc ms (F0 m pc ls st0) rest Qa (gA G)
def gRun5 (p : Program) (l : Launch) (e : Env) (R : Room) (s : State) (m : MethodId) (args : Array Value) (below : List Frame) (meth : Method) (c : Code) (G : gG) (nL : Nat) (cells slots mc ms : Nat) (M : gM) (pc : Nat) (lv : List (Nat × Value)) (st0 rest : List Value) (Qa : State → Outcome → State → Prop) : Prop :=
  ∀ (H : Heap) (locs : List Loc) (ls : Array Slot), gW G M H → va_S (gA G) s.heap H locs → lv_has ls nL lv → va_Run5 p l e R s m args below meth c H locs cells slots mc ms (F0 m pc ls st0) rest Qa (gA G)
theorem g_calli {mc ms : Nat} {rest st0 : List Value} {a : Array Value} {post : Int32 → gM → Nat → Prop} (hr : gRun p l e R s m args below meth c G nL cells slots mc ms M pc lv st0 rest (gQi G post a)) (c1 : Nat) (hc1 : cells + mc ≤ c1) (s1 : Nat) (hs1 : slots + ms ≤ s1) (q : Nat) (hq : pc + 3 = q) (kk : ∀ (r : Int32) (M' : gM) (k : Nat), post r M' k → gJ p l e R s m args below meth c G nL Q (c1) (s1) M' q lv (.int r :: rest)) : gJ p l e R s m args below meth c G nL Q cells slots M pc lv st0 := by
  subst hq
  intro H locs ls hW hS hl T hT X
  obtain ⟨v, st₀, t, T', L, h0, X', hL, e1, e2, ⟨⟨r, M', k, hv, hp, hW1, hsz⟩, hz, hk⟩, stp⟩ := hr H locs ls hW hS hl T hT X
  cases hv
  rw [h0] at hz hk
  obtain ⟨t2, a1, b1⟩ := kk r M' k hp T'.heap (locs ++ L) ls (by rw [e1]; exact hW1)
    ⟨Nat.le_trans hS.1 (by rw [e1]; exact hz), fun q h1 h2 => by rw [e1, hk q (Nat.lt_of_lt_of_le h1 hS.1) h2]; exact hS.2.1 q h1 h2, fun q hq => by
      rcases List.mem_append.mp hq with h | h
      · exact hS.2.2 q h
      · exact hL q h⟩ hl T' rfl (stand_widen X' hc1 hs1)
  exact ⟨t2, stp t2 a1, b1⟩
theorem g_calliA {mc ms : Nat} {rest st0 : List Value} {a : Array Value} {post : Int32 → gM → Nat → Prop} (hr : gRun p l e R s m args below meth c G nL cells slots mc ms M pc lv st0 rest (gQi G post a)) (q : Nat) (hq : pc + 3 = q) (kk : ∀ (r : Int32) (M' : gM) (k : Nat), post r M' k → gJ p l e R s m args below meth c G nL Q (cells + k) (slots + ms) M' q lv (.int r :: rest)) : gJ p l e R s m args below meth c G nL Q cells slots M pc lv st0 := by
  subst hq
  intro H locs ls hW hS hl T hT X
  obtain ⟨v, st₀, t, T', L, h0, X', hL, e1, e2, ⟨⟨r, M', k, hv, hp, hW1, hsz⟩, hz, hk⟩, stp⟩ := hr H locs ls hW hS hl T hT X
  cases hv
  rw [h0] at hz hk
  obtain ⟨t2, a1, b1⟩ := kk r M' k hp T'.heap (locs ++ L) ls (by rw [e1]; exact hW1)
    ⟨Nat.le_trans hS.1 (by rw [e1]; exact hz), fun q h1 h2 => by rw [e1, hk q (Nat.lt_of_lt_of_le h1 hS.1) h2]; exact hS.2.1 q h1 h2, fun q hq => by
      rcases List.mem_append.mp hq with h | h
      · exact hS.2.2 q h
      · exact hL q h⟩ hl T' rfl (gStand X' (by rw [e1, hsz, h0]; have := X.heapSize; rw [hT] at this; omega))
  exact ⟨t2, stp t2 a1, b1⟩
theorem g_calll {mc ms : Nat} {rest st0 : List Value} {a : Array Value} {post : Int64 → gM → Nat → Prop} (hr : gRun p l e R s m args below meth c G nL cells slots mc ms M pc lv st0 rest (gQl G post a)) (c1 : Nat) (hc1 : cells + mc ≤ c1) (s1 : Nat) (hs1 : slots + ms ≤ s1) (q : Nat) (hq : pc + 3 = q) (kk : ∀ (r : Int64) (M' : gM) (k : Nat), post r M' k → gJ p l e R s m args below meth c G nL Q (c1) (s1) M' q lv (.long r :: rest)) : gJ p l e R s m args below meth c G nL Q cells slots M pc lv st0 := by
  subst hq
  intro H locs ls hW hS hl T hT X
  obtain ⟨v, st₀, t, T', L, h0, X', hL, e1, e2, ⟨⟨r, M', k, hv, hp, hW1, hsz⟩, hz, hk⟩, stp⟩ := hr H locs ls hW hS hl T hT X
  cases hv
  rw [h0] at hz hk
  obtain ⟨t2, a1, b1⟩ := kk r M' k hp T'.heap (locs ++ L) ls (by rw [e1]; exact hW1)
    ⟨Nat.le_trans hS.1 (by rw [e1]; exact hz), fun q h1 h2 => by rw [e1, hk q (Nat.lt_of_lt_of_le h1 hS.1) h2]; exact hS.2.1 q h1 h2, fun q hq => by
      rcases List.mem_append.mp hq with h | h
      · exact hS.2.2 q h
      · exact hL q h⟩ hl T' rfl (stand_widen X' hc1 hs1)
  exact ⟨t2, stp t2 a1, b1⟩
theorem g_calllA {mc ms : Nat} {rest st0 : List Value} {a : Array Value} {post : Int64 → gM → Nat → Prop} (hr : gRun p l e R s m args below meth c G nL cells slots mc ms M pc lv st0 rest (gQl G post a)) (q : Nat) (hq : pc + 3 = q) (kk : ∀ (r : Int64) (M' : gM) (k : Nat), post r M' k → gJ p l e R s m args below meth c G nL Q (cells + k) (slots + ms) M' q lv (.long r :: rest)) : gJ p l e R s m args below meth c G nL Q cells slots M pc lv st0 := by
  subst hq
  intro H locs ls hW hS hl T hT X
  obtain ⟨v, st₀, t, T', L, h0, X', hL, e1, e2, ⟨⟨r, M', k, hv, hp, hW1, hsz⟩, hz, hk⟩, stp⟩ := hr H locs ls hW hS hl T hT X
  cases hv
  rw [h0] at hz hk
  obtain ⟨t2, a1, b1⟩ := kk r M' k hp T'.heap (locs ++ L) ls (by rw [e1]; exact hW1)
    ⟨Nat.le_trans hS.1 (by rw [e1]; exact hz), fun q h1 h2 => by rw [e1, hk q (Nat.lt_of_lt_of_le h1 hS.1) h2]; exact hS.2.1 q h1 h2, fun q hq => by
      rcases List.mem_append.mp hq with h | h
      · exact hS.2.2 q h
      · exact hL q h⟩ hl T' rfl (gStand X' (by rw [e1, hsz, h0]; have := X.heapSize; rw [hT] at this; omega))
  exact ⟨t2, stp t2 a1, b1⟩
theorem g_callv {mc ms : Nat} {rest st0 : List Value} {a : Array Value} {post : gM → Nat → Prop} (hr : gRun p l e R s m args below meth c G nL cells slots mc ms M pc lv st0 rest (gQv G post a)) (c1 : Nat) (hc1 : cells + mc ≤ c1) (s1 : Nat) (hs1 : slots + ms ≤ s1) (q : Nat) (hq : pc + 3 = q) (kk : ∀ (M' : gM) (k : Nat), post M' k → gJ p l e R s m args below meth c G nL Q (c1) (s1) M' q lv (rest)) : gJ p l e R s m args below meth c G nL Q cells slots M pc lv st0 := by
  subst hq
  intro H locs ls hW hS hl T hT X
  obtain ⟨v, st₀, t, T', L, h0, X', hL, e1, e2, ⟨⟨M', k, hv, hp, hW1, hsz⟩, hz, hk⟩, stp⟩ := hr H locs ls hW hS hl T hT X
  cases hv
  rw [h0] at hz hk
  obtain ⟨t2, a1, b1⟩ := kk M' k hp T'.heap (locs ++ L) ls (by rw [e1]; exact hW1)
    ⟨Nat.le_trans hS.1 (by rw [e1]; exact hz), fun q h1 h2 => by rw [e1, hk q (Nat.lt_of_lt_of_le h1 hS.1) h2]; exact hS.2.1 q h1 h2, fun q hq => by
      rcases List.mem_append.mp hq with h | h
      · exact hS.2.2 q h
      · exact hL q h⟩ hl T' rfl (stand_widen X' hc1 hs1)
  exact ⟨t2, stp t2 a1, b1⟩
theorem g_callvA {mc ms : Nat} {rest st0 : List Value} {a : Array Value} {post : gM → Nat → Prop} (hr : gRun p l e R s m args below meth c G nL cells slots mc ms M pc lv st0 rest (gQv G post a)) (q : Nat) (hq : pc + 3 = q) (kk : ∀ (M' : gM) (k : Nat), post M' k → gJ p l e R s m args below meth c G nL Q (cells + k) (slots + ms) M' q lv (rest)) : gJ p l e R s m args below meth c G nL Q cells slots M pc lv st0 := by
  subst hq
  intro H locs ls hW hS hl T hT X
  obtain ⟨v, st₀, t, T', L, h0, X', hL, e1, e2, ⟨⟨M', k, hv, hp, hW1, hsz⟩, hz, hk⟩, stp⟩ := hr H locs ls hW hS hl T hT X
  cases hv
  rw [h0] at hz hk
  obtain ⟨t2, a1, b1⟩ := kk M' k hp T'.heap (locs ++ L) ls (by rw [e1]; exact hW1)
    ⟨Nat.le_trans hS.1 (by rw [e1]; exact hz), fun q h1 h2 => by rw [e1, hk q (Nat.lt_of_lt_of_le h1 hS.1) h2]; exact hS.2.1 q h1 h2, fun q hq => by
      rcases List.mem_append.mp hq with h | h
      · exact hS.2.2 q h
      · exact hL q h⟩ hl T' rfl (gStand X' (by rw [e1, hsz, h0]; have := X.heapSize; rw [hT] at this; omega))
  exact ⟨t2, stp t2 a1, b1⟩
theorem g_callq {mc ms : Nat} {rest st0 : List Value} {a : Array Value} {post : Option Nat → gM → Nat → Prop} (hr : gRun p l e R s m args below meth c G nL cells slots mc ms M pc lv st0 rest (gQq G post a)) (c1 : Nat) (hc1 : cells + mc ≤ c1) (s1 : Nat) (hs1 : slots + ms ≤ s1) (q : Nat) (hq : pc + 3 = q) (kk : ∀ (r : Option Nat) (M' : gM) (k : Nat), post r M' k → gJ p l e R s m args below meth c G nL Q (c1) (s1) M' q lv (va_rf r :: rest)) : gJ p l e R s m args below meth c G nL Q cells slots M pc lv st0 := by
  subst hq
  intro H locs ls hW hS hl T hT X
  obtain ⟨v, st₀, t, T', L, h0, X', hL, e1, e2, ⟨⟨r, M', k, hv, hp, hW1, hsz⟩, hz, hk⟩, stp⟩ := hr H locs ls hW hS hl T hT X
  cases hv
  rw [h0] at hz hk
  obtain ⟨t2, a1, b1⟩ := kk r M' k hp T'.heap (locs ++ L) ls (by rw [e1]; exact hW1)
    ⟨Nat.le_trans hS.1 (by rw [e1]; exact hz), fun q h1 h2 => by rw [e1, hk q (Nat.lt_of_lt_of_le h1 hS.1) h2]; exact hS.2.1 q h1 h2, fun q hq => by
      rcases List.mem_append.mp hq with h | h
      · exact hS.2.2 q h
      · exact hL q h⟩ hl T' rfl (stand_widen X' hc1 hs1)
  exact ⟨t2, stp t2 a1, b1⟩
theorem g_callqA {mc ms : Nat} {rest st0 : List Value} {a : Array Value} {post : Option Nat → gM → Nat → Prop} (hr : gRun p l e R s m args below meth c G nL cells slots mc ms M pc lv st0 rest (gQq G post a)) (q : Nat) (hq : pc + 3 = q) (kk : ∀ (r : Option Nat) (M' : gM) (k : Nat), post r M' k → gJ p l e R s m args below meth c G nL Q (cells + k) (slots + ms) M' q lv (va_rf r :: rest)) : gJ p l e R s m args below meth c G nL Q cells slots M pc lv st0 := by
  subst hq
  intro H locs ls hW hS hl T hT X
  obtain ⟨v, st₀, t, T', L, h0, X', hL, e1, e2, ⟨⟨r, M', k, hv, hp, hW1, hsz⟩, hz, hk⟩, stp⟩ := hr H locs ls hW hS hl T hT X
  cases hv
  rw [h0] at hz hk
  obtain ⟨t2, a1, b1⟩ := kk r M' k hp T'.heap (locs ++ L) ls (by rw [e1]; exact hW1)
    ⟨Nat.le_trans hS.1 (by rw [e1]; exact hz), fun q h1 h2 => by rw [e1, hk q (Nat.lt_of_lt_of_le h1 hS.1) h2]; exact hS.2.1 q h1 h2, fun q hq => by
      rcases List.mem_append.mp hq with h | h
      · exact hS.2.2 q h
      · exact hL q h⟩ hl T' rfl (gStand X' (by rw [e1, hsz, h0]; have := X.heapSize; rw [hT] at this; omega))
  exact ⟨t2, stp t2 a1, b1⟩
theorem g_callFi {mc ms : Nat} {rest st0 : List Value} {a : Array Value} {post : Int32 → gM → Nat → Prop} (hr : gRun5 p l e R s m args below meth c G nL cells slots mc ms M pc lv st0 rest (gQi G post a)) (c1 : Nat) (hc1 : cells + mc ≤ c1) (s1 : Nat) (hs1 : slots + ms ≤ s1) (q : Nat) (hq : pc + 5 = q) (kk : ∀ (r : Int32) (M' : gM) (k : Nat), post r M' k → gJ p l e R s m args below meth c G nL Q (c1) (s1) M' q lv (.int r :: rest)) : gJ p l e R s m args below meth c G nL Q cells slots M pc lv st0 := by
  subst hq
  intro H locs ls hW hS hl T hT X
  obtain ⟨v, st₀, t, T', L, h0, X', hL, e1, e2, ⟨⟨r, M', k, hv, hp, hW1, hsz⟩, hz, hk⟩, stp⟩ := hr H locs ls hW hS hl T hT X
  cases hv
  rw [h0] at hz hk
  obtain ⟨t2, a1, b1⟩ := kk r M' k hp T'.heap (locs ++ L) ls (by rw [e1]; exact hW1)
    ⟨Nat.le_trans hS.1 (by rw [e1]; exact hz), fun q h1 h2 => by rw [e1, hk q (Nat.lt_of_lt_of_le h1 hS.1) h2]; exact hS.2.1 q h1 h2, fun q hq => by
      rcases List.mem_append.mp hq with h | h
      · exact hS.2.2 q h
      · exact hL q h⟩ hl T' rfl (stand_widen X' hc1 hs1)
  exact ⟨t2, stp t2 a1, b1⟩
theorem g_callFiA {mc ms : Nat} {rest st0 : List Value} {a : Array Value} {post : Int32 → gM → Nat → Prop} (hr : gRun5 p l e R s m args below meth c G nL cells slots mc ms M pc lv st0 rest (gQi G post a)) (q : Nat) (hq : pc + 5 = q) (kk : ∀ (r : Int32) (M' : gM) (k : Nat), post r M' k → gJ p l e R s m args below meth c G nL Q (cells + k) (slots + ms) M' q lv (.int r :: rest)) : gJ p l e R s m args below meth c G nL Q cells slots M pc lv st0 := by
  subst hq
  intro H locs ls hW hS hl T hT X
  obtain ⟨v, st₀, t, T', L, h0, X', hL, e1, e2, ⟨⟨r, M', k, hv, hp, hW1, hsz⟩, hz, hk⟩, stp⟩ := hr H locs ls hW hS hl T hT X
  cases hv
  rw [h0] at hz hk
  obtain ⟨t2, a1, b1⟩ := kk r M' k hp T'.heap (locs ++ L) ls (by rw [e1]; exact hW1)
    ⟨Nat.le_trans hS.1 (by rw [e1]; exact hz), fun q h1 h2 => by rw [e1, hk q (Nat.lt_of_lt_of_le h1 hS.1) h2]; exact hS.2.1 q h1 h2, fun q hq => by
      rcases List.mem_append.mp hq with h | h
      · exact hS.2.2 q h
      · exact hL q h⟩ hl T' rfl (gStand X' (by rw [e1, hsz, h0]; have := X.heapSize; rw [hT] at this; omega))
  exact ⟨t2, stp t2 a1, b1⟩
theorem g_callFv {mc ms : Nat} {rest st0 : List Value} {a : Array Value} {post : gM → Nat → Prop} (hr : gRun5 p l e R s m args below meth c G nL cells slots mc ms M pc lv st0 rest (gQv G post a)) (c1 : Nat) (hc1 : cells + mc ≤ c1) (s1 : Nat) (hs1 : slots + ms ≤ s1) (q : Nat) (hq : pc + 5 = q) (kk : ∀ (M' : gM) (k : Nat), post M' k → gJ p l e R s m args below meth c G nL Q (c1) (s1) M' q lv (rest)) : gJ p l e R s m args below meth c G nL Q cells slots M pc lv st0 := by
  subst hq
  intro H locs ls hW hS hl T hT X
  obtain ⟨v, st₀, t, T', L, h0, X', hL, e1, e2, ⟨⟨M', k, hv, hp, hW1, hsz⟩, hz, hk⟩, stp⟩ := hr H locs ls hW hS hl T hT X
  cases hv
  rw [h0] at hz hk
  obtain ⟨t2, a1, b1⟩ := kk M' k hp T'.heap (locs ++ L) ls (by rw [e1]; exact hW1)
    ⟨Nat.le_trans hS.1 (by rw [e1]; exact hz), fun q h1 h2 => by rw [e1, hk q (Nat.lt_of_lt_of_le h1 hS.1) h2]; exact hS.2.1 q h1 h2, fun q hq => by
      rcases List.mem_append.mp hq with h | h
      · exact hS.2.2 q h
      · exact hL q h⟩ hl T' rfl (stand_widen X' hc1 hs1)
  exact ⟨t2, stp t2 a1, b1⟩
theorem g_callFvA {mc ms : Nat} {rest st0 : List Value} {a : Array Value} {post : gM → Nat → Prop} (hr : gRun5 p l e R s m args below meth c G nL cells slots mc ms M pc lv st0 rest (gQv G post a)) (q : Nat) (hq : pc + 5 = q) (kk : ∀ (M' : gM) (k : Nat), post M' k → gJ p l e R s m args below meth c G nL Q (cells + k) (slots + ms) M' q lv (rest)) : gJ p l e R s m args below meth c G nL Q cells slots M pc lv st0 := by
  subst hq
  intro H locs ls hW hS hl T hT X
  obtain ⟨v, st₀, t, T', L, h0, X', hL, e1, e2, ⟨⟨M', k, hv, hp, hW1, hsz⟩, hz, hk⟩, stp⟩ := hr H locs ls hW hS hl T hT X
  cases hv
  rw [h0] at hz hk
  obtain ⟨t2, a1, b1⟩ := kk M' k hp T'.heap (locs ++ L) ls (by rw [e1]; exact hW1)
    ⟨Nat.le_trans hS.1 (by rw [e1]; exact hz), fun q h1 h2 => by rw [e1, hk q (Nat.lt_of_lt_of_le h1 hS.1) h2]; exact hS.2.1 q h1 h2, fun q hq => by
      rcases List.mem_append.mp hq with h | h
      · exact hS.2.2 q h
      · exact hL q h⟩ hl T' rfl (gStand X' (by rw [e1, hsz, h0]; have := X.heapSize; rw [hT] at this; omega))
  exact ⟨t2, stp t2 a1, b1⟩
theorem g_callFq {mc ms : Nat} {rest st0 : List Value} {a : Array Value} {post : Option Nat → gM → Nat → Prop} (hr : gRun5 p l e R s m args below meth c G nL cells slots mc ms M pc lv st0 rest (gQq G post a)) (c1 : Nat) (hc1 : cells + mc ≤ c1) (s1 : Nat) (hs1 : slots + ms ≤ s1) (q : Nat) (hq : pc + 5 = q) (kk : ∀ (r : Option Nat) (M' : gM) (k : Nat), post r M' k → gJ p l e R s m args below meth c G nL Q (c1) (s1) M' q lv (va_rf r :: rest)) : gJ p l e R s m args below meth c G nL Q cells slots M pc lv st0 := by
  subst hq
  intro H locs ls hW hS hl T hT X
  obtain ⟨v, st₀, t, T', L, h0, X', hL, e1, e2, ⟨⟨r, M', k, hv, hp, hW1, hsz⟩, hz, hk⟩, stp⟩ := hr H locs ls hW hS hl T hT X
  cases hv
  rw [h0] at hz hk
  obtain ⟨t2, a1, b1⟩ := kk r M' k hp T'.heap (locs ++ L) ls (by rw [e1]; exact hW1)
    ⟨Nat.le_trans hS.1 (by rw [e1]; exact hz), fun q h1 h2 => by rw [e1, hk q (Nat.lt_of_lt_of_le h1 hS.1) h2]; exact hS.2.1 q h1 h2, fun q hq => by
      rcases List.mem_append.mp hq with h | h
      · exact hS.2.2 q h
      · exact hL q h⟩ hl T' rfl (stand_widen X' hc1 hs1)
  exact ⟨t2, stp t2 a1, b1⟩
theorem g_callFqA {mc ms : Nat} {rest st0 : List Value} {a : Array Value} {post : Option Nat → gM → Nat → Prop} (hr : gRun5 p l e R s m args below meth c G nL cells slots mc ms M pc lv st0 rest (gQq G post a)) (q : Nat) (hq : pc + 5 = q) (kk : ∀ (r : Option Nat) (M' : gM) (k : Nat), post r M' k → gJ p l e R s m args below meth c G nL Q (cells + k) (slots + ms) M' q lv (va_rf r :: rest)) : gJ p l e R s m args below meth c G nL Q cells slots M pc lv st0 := by
  subst hq
  intro H locs ls hW hS hl T hT X
  obtain ⟨v, st₀, t, T', L, h0, X', hL, e1, e2, ⟨⟨r, M', k, hv, hp, hW1, hsz⟩, hz, hk⟩, stp⟩ := hr H locs ls hW hS hl T hT X
  cases hv
  rw [h0] at hz hk
  obtain ⟨t2, a1, b1⟩ := kk r M' k hp T'.heap (locs ++ L) ls (by rw [e1]; exact hW1)
    ⟨Nat.le_trans hS.1 (by rw [e1]; exact hz), fun q h1 h2 => by rw [e1, hk q (Nat.lt_of_lt_of_le h1 hS.1) h2]; exact hS.2.1 q h1 h2, fun q hq => by
      rcases List.mem_append.mp hq with h | h
      · exact hS.2.2 q h
      · exact hL q h⟩ hl T' rfl (gStand X' (by rw [e1, hsz, h0]; have := X.heapSize; rw [hT] at this; omega))
  exact ⟨t2, stp t2 a1, b1⟩
theorem g_calliP {ms : Nat} {rest st0 : List Value} {a : Array Value} {v : Int32} (hr : gRun p l e R s m args below meth c G nL cells slots 0 ms M pc lv st0 rest (gQi G (fun r M' k => r = v ∧ M' = M ∧ k = 0) a)) (q : Nat) (hq : pc + 3 = q) (s1 : Nat) (hs1 : slots + ms ≤ s1) (kk : gJ p l e R s m args below meth c G nL Q cells s1 M q lv (.int v :: rest)) : gJ p l e R s m args below meth c G nL Q cells slots M pc lv st0 := by
  refine g_calli hr cells (Nat.le_refl _) s1 hs1 q hq (fun r M' k hp => ?_)
  obtain ⟨rfl, rfl, rfl⟩ := hp
  exact kk
theorem g_calllP {ms : Nat} {rest st0 : List Value} {a : Array Value} {v : Int64} (hr : gRun p l e R s m args below meth c G nL cells slots 0 ms M pc lv st0 rest (gQl G (fun r M' k => r = v ∧ M' = M ∧ k = 0) a)) (q : Nat) (hq : pc + 3 = q) (s1 : Nat) (hs1 : slots + ms ≤ s1) (kk : gJ p l e R s m args below meth c G nL Q cells s1 M q lv (.long v :: rest)) : gJ p l e R s m args below meth c G nL Q cells slots M pc lv st0 := by
  refine g_calll hr cells (Nat.le_refl _) s1 hs1 q hq (fun r M' k hp => ?_)
  obtain ⟨rfl, rfl, rfl⟩ := hp
  exact kk
theorem g_callqP {ms : Nat} {rest st0 : List Value} {a : Array Value} {v : Option Nat} (hr : gRun p l e R s m args below meth c G nL cells slots 0 ms M pc lv st0 rest (gQq G (fun r M' k => r = v ∧ M' = M ∧ k = 0) a)) (q : Nat) (hq : pc + 3 = q) (s1 : Nat) (hs1 : slots + ms ≤ s1) (kk : gJ p l e R s m args below meth c G nL Q cells s1 M q lv (va_rf v :: rest)) : gJ p l e R s m args below meth c G nL Q cells slots M pc lv st0 := by
  refine g_callq hr cells (Nat.le_refl _) s1 hs1 q hq (fun r M' k hp => ?_)
  obtain ⟨rfl, rfl, rfl⟩ := hp
  exact kk
theorem g_callFiP {ms : Nat} {rest st0 : List Value} {a : Array Value} {v : Int32} (hr : gRun5 p l e R s m args below meth c G nL cells slots 0 ms M pc lv st0 rest (gQi G (fun r M' k => r = v ∧ M' = M ∧ k = 0) a)) (q : Nat) (hq : pc + 5 = q) (s1 : Nat) (hs1 : slots + ms ≤ s1) (kk : gJ p l e R s m args below meth c G nL Q cells s1 M q lv (.int v :: rest)) : gJ p l e R s m args below meth c G nL Q cells slots M pc lv st0 := by
  refine g_callFi hr cells (Nat.le_refl _) s1 hs1 q hq (fun r M' k hp => ?_)
  obtain ⟨rfl, rfl, rfl⟩ := hp
  exact kk
theorem g_callFqP {ms : Nat} {rest st0 : List Value} {a : Array Value} {v : Option Nat} (hr : gRun5 p l e R s m args below meth c G nL cells slots 0 ms M pc lv st0 rest (gQq G (fun r M' k => r = v ∧ M' = M ∧ k = 0) a)) (q : Nat) (hq : pc + 5 = q) (s1 : Nat) (hs1 : slots + ms ≤ s1) (kk : gJ p l e R s m args below meth c G nL Q cells s1 M q lv (va_rf v :: rest)) : gJ p l e R s m args below meth c G nL Q cells slots M pc lv st0 := by
  refine g_callFq hr cells (Nat.le_refl _) s1 hs1 q hq (fun r M' k hp => ?_)
  obtain ⟨rfl, rfl, rfl⟩ := hp
  exact kk
/-- what a call of y asks of the tables, whoever calls: through an object of class C; static; a constructor -/
def gMv (y : MethodName) (C : String) (b : ByteArray) (L : Nat) (r : Option FieldType) (n : Nat) : Prop := Cond.instanceMethod y ∈ lw_all ∧ Cond.selects C y y ∈ lw_all ∧ Cond.initialized C ∈ lw_all ∧ Cond.code y b L r ∈ lw_all ∧ (y.cls = C ∧ y.cls ≠ "java/lang/invoke/MethodHandle" ∧ y.cls ≠ "java/lang/invoke/VarHandle" ∧ (parseMethodDescriptor y.desc).map (fun d => d.parameters.length) = some n)
def gMs (y : MethodName) (b : ByteArray) (L : Nat) (r : Option FieldType) (n : Nat) : Prop := Cond.static y ∈ lw_all ∧ Cond.initialized y.cls ∈ lw_all ∧ Cond.code y b L r ∈ lw_all ∧ (y.cls ≠ "java/lang/invoke/MethodHandle" ∧ y.cls ≠ "java/lang/invoke/VarHandle" ∧ (parseMethodDescriptor y.desc).map (fun d => d.parameters.length) = some n)
def gMi (y : MethodName) (b : ByteArray) (L : Nat) (n : Nat) : Prop := Cond.instanceMethod y ∈ lw_all ∧ Cond.initialized y.cls ∈ lw_all ∧ Cond.code y b L none ∈ lw_all ∧ y.name = "<init>" ∧ (y.cls ≠ "java/lang/invoke/MethodHandle" ∧ y.cls ≠ "java/lang/invoke/VarHandle" ∧ (parseMethodDescriptor y.desc).map (fun d => d.parameters.length) = some n)
/-- through an object of class C the method named x (found in owner) comes to y -/
def gMu (x y : MethodName) (C owner : String) (b : ByteArray) (L : Nat) (r : Option FieldType) (n : Nat) : Prop := Cond.sameMethod x.cls owner x.name x.desc ∈ lw_all ∧ Cond.selects C x y ∈ lw_all ∧ Cond.instanceMethod y ∈ lw_all ∧ Cond.initialized y.cls ∈ lw_all ∧ Cond.code y b L r ∈ lw_all ∧ (y = ⟨owner, x.name, x.desc⟩ ∨ Cond.declares ⟨owner, x.name, x.desc⟩ ∈ lw_tbl) ∧ (owner ≠ "java/lang/invoke/MethodHandle" ∧ owner ≠ "java/lang/invoke/VarHandle" ∧ (parseMethodDescriptor x.desc).map (fun d => d.parameters.length) = some n)
/-- through an object of class C the interface's x comes to y -/
def gMf (x y : MethodName) (C : String) (b : ByteArray) (L : Nat) (r : Option FieldType) (n : Nat) : Prop := (C, x, y) ∈ gIf ∧ Cond.selects C x y ∈ lw_all ∧ Cond.instanceMethod y ∈ lw_all ∧ Cond.initialized y.cls ∈ lw_all ∧ Cond.code y b L r ∈ lw_all ∧ (x.cls ≠ "java/lang/invoke/MethodHandle" ∧ x.cls ≠ "java/lang/invoke/VarHandle" ∧ (parseMethodDescriptor x.desc).map (fun d => d.parameters.length) = some n)
theorem g_V (hC : gC p s m args meth c G nL cc own nm ret) {y : MethodName} {bytes : ByteArray} {maxL mc ms n index : Nat} {rt : Option FieldType} {rm : Room} {Qc : Array Value → State → Outcome → State → Prop} {As rest st0 : List Value} {C : String} {b : Nat} (hm : gMv y C bytes maxL rt n) (hlink : Cond.methodLink own index y ∈ lw_all) (hb : gOf G s M C b) (hM : Met l y (ws_ y bytes maxL rt) rm (gPc G (.ref b :: As) M) Qc mc ms (gA G)) (hrm : rm.cells = mc ∧ rm.slots = ms) (hR : rm.frames + 1 ≤ R.frames ∧ 8 + (maxL + 11) + rm.locals ≤ R.locals) (hst : st0 = As.reverse ++ .ref b :: rest) (hw : (rest.map fun v => v.category).sum ≤ 8) (hd : decode cc pc = .ok (.invokevirtual index, 3)) (hn : As.length = n) (hf : cells + mc ≤ R.cells ∧ slots + ms ≤ R.slots) : gRun p l e R s m args below meth c G nL cells slots mc ms M pc lv st0 rest (Qc (Value.ref b :: As).toArray) := by
  subst hst
  intro H locs ls hW hS hl
  exact va_runV (As := As) (rest := rest) hC.1 hM (cwV n hC.ts (lw_V hlink hm.1 hm.2.1 hm.2.2.1 hm.2.2.2.1) rfl hrm.1 hrm.2 hm.2.2.2.2 hR) ⟨gPc.blind, hb H locs hW hS, fun U hU hWm => ⟨rfl, by rw [hU]; exact hW, hC.K.to hS hU hWm⟩⟩ rfl hn hl.1 rfl (lv_room hw) hd hf
theorem g_S (hC : gC p s m args meth c G nL cc own nm ret) {y : MethodName} {bytes : ByteArray} {maxL mc ms n index : Nat} {rt : Option FieldType} {rm : Room} {Qc : Array Value → State → Outcome → State → Prop} {As rest st0 : List Value} (hm : gMs y bytes maxL rt n) (hlink : Cond.methodLink own index y ∈ lw_all) (hM : Met l y (ws_ y bytes maxL rt) rm (gPc G As M) Qc mc ms (gA G)) (hrm : rm.cells = mc ∧ rm.slots = ms) (hR : rm.frames + 1 ≤ R.frames ∧ 8 + (maxL + 11) + rm.locals ≤ R.locals) (hst : st0 = As.reverse ++ rest) (hw : (rest.map fun v => v.category).sum ≤ 8) (hd : decode cc pc = .ok (.invokestatic index, 3)) (hn : As.length = n) (hf : cells + mc ≤ R.cells ∧ slots + ms ≤ R.slots) : gRun p l e R s m args below meth c G nL cells slots mc ms M pc lv st0 rest (Qc (As).toArray) := by
  subst hst
  intro H locs ls hW hS hl
  exact va_runS (As := As) (rest := rest) hC.1 hM (va_cwS n hC.ts (lw_S hlink hm.1 hm.2.1 hm.2.2.1) rfl hrm.1 hrm.2 hm.2.2.2 hR) ⟨gPc.blind, fun U hU hWm => ⟨rfl, by rw [hU]; exact hW, hC.K.to hS hU hWm⟩⟩ rfl hn hl.1 rfl (lv_room hw) hd hf
theorem g_I (hC : gC p s m args meth c G nL cc own nm ret) {y : MethodName} {bytes : ByteArray} {maxL mc ms n index : Nat} {rm : Room} {Qc : Array Value → State → Outcome → State → Prop} {As rest st0 : List Value} {b : Nat} (hm : gMi y bytes maxL n) (hlink : Cond.methodLink own index y ∈ lw_all) (hM : Met l y (ws_ y bytes maxL none) rm (gPc G (.ref b :: As) M) Qc mc ms (gA G)) (hrm : rm.cells = mc ∧ rm.slots = ms) (hR : rm.frames + 1 ≤ R.frames ∧ 8 + (maxL + 11) + rm.locals ≤ R.locals) (hst : st0 = As.reverse ++ .ref b :: rest) (hw : (rest.map fun v => v.category).sum ≤ 8) (hd : decode cc pc = .ok (.invokespecial index, 3)) (hn : As.length = n) (hf : cells + mc ≤ R.cells ∧ slots + ms ≤ R.slots) : gRun p l e R s m args below meth c G nL cells slots mc ms M pc lv st0 rest (Qc (Value.ref b :: As).toArray) := by
  subst hst
  intro H locs ls hW hS hl
  exact va_runI (As := As) (rest := rest) hC.1 hM (cwI n hC.ts (lw_meth hm.2.2.1) rfl hrm.1 hrm.2 (hC.ts _ hm.2.1) (hC.ts _ hlink) (hC.ts _ hm.1) hm.2.2.2.1 hm.2.2.2.2 hR) ⟨gPc.blind, fun U hU hWm => ⟨rfl, by rw [hU]; exact hW, hC.K.to hS hU hWm⟩⟩ rfl hn hl.1 rfl (lv_room hw) hd hf
theorem g_VN (hC : gC p s m args meth c G nL cc own nm ret) {y : MethodName} {bytes : ByteArray} {maxL mc ms n index : Nat} {rt : Option FieldType} {rm : Room} {Qc : Array Value → State → Outcome → State → Prop} {As rest st0 : List Value} {C host : String} {b : Nat} (hm : gMv y C bytes maxL rt n) (hlink : Cond.methodLinkNest own index y host ∈ lw_tbl) (hb : gOf G s M C b) (hM : Met l y (ws_ y bytes maxL rt) rm (gPc G (.ref b :: As) M) Qc mc ms (gA G)) (hrm : rm.cells = mc ∧ rm.slots = ms) (hR : rm.frames + 1 ≤ R.frames ∧ 8 + (maxL + 11) + rm.locals ≤ R.locals) (hst : st0 = As.reverse ++ .ref b :: rest) (hw : (rest.map fun v => v.category).sum ≤ 8) (hd : decode cc pc = .ok (.invokevirtual index, 3)) (hn : As.length = n) (hf : cells + mc ≤ R.cells ∧ slots + ms ≤ R.slots) : gRun p l e R s m args below meth c G nL cells slots mc ms M pc lv st0 rest (Qc (Value.ref b :: As).toArray) := by
  subst hst
  intro H locs ls hW hS hl
  exact va_runVN (As := As) (rest := rest) hC.1 hM ⟨va_cnB n hC.ts (lw_meth hm.2.2.2.1) rfl hrm.1 hrm.2 (hC.K.2.2.2.2.1 _ hlink rfl) (hC.ts _ (by rw [hm.2.2.2.2.1]; exact hm.2.2.1)) hm.2.2.2.2.2 hR, hC.ts _ hm.1, hC.ts _ hm.2.1⟩ ⟨gPc.blind, hb H locs hW hS, fun U hU hWm => ⟨rfl, by rw [hU]; exact hW, hC.K.to hS hU hWm⟩⟩ rfl hn hl.1 rfl (lv_room hw) hd hf
theorem g_SN (hC : gC p s m args meth c G nL cc own nm ret) {y : MethodName} {bytes : ByteArray} {maxL mc ms n index : Nat} {rt : Option FieldType} {rm : Room} {Qc : Array Value → State → Outcome → State → Prop} {As rest st0 : List Value} {host : String} (hm : gMs y bytes maxL rt n) (hlink : Cond.methodLinkNest own index y host ∈ lw_tbl) (hM : Met l y (ws_ y bytes maxL rt) rm (gPc G As M) Qc mc ms (gA G)) (hrm : rm.cells = mc ∧ rm.slots = ms) (hR : rm.frames + 1 ≤ R.frames ∧ 8 + (maxL + 11) + rm.locals ≤ R.locals) (hst : st0 = As.reverse ++ rest) (hw : (rest.map fun v => v.category).sum ≤ 8) (hd : decode cc pc = .ok (.invokestatic index, 3)) (hn : As.length = n) (hf : cells + mc ≤ R.cells ∧ slots + ms ≤ R.slots) : gRun p l e R s m args below meth c G nL cells slots mc ms M pc lv st0 rest (Qc (As).toArray) := by
  subst hst
  intro H locs ls hW hS hl
  exact va_runSN (As := As) (rest := rest) hC.1 hM ⟨va_cnB n hC.ts (lw_meth hm.2.2.1) rfl hrm.1 hrm.2 (hC.K.2.2.2.2.1 _ hlink rfl) (hC.ts _ hm.2.1) hm.2.2.2 hR, hC.ts _ hm.1, trivial⟩ ⟨gPc.blind, fun U hU hWm => ⟨rfl, by rw [hU]; exact hW, hC.K.to hS hU hWm⟩⟩ rfl hn hl.1 rfl (lv_room hw) hd hf
theorem g_IN (hC : gC p s m args meth c G nL cc own nm ret) {y : MethodName} {bytes : ByteArray} {maxL mc ms n index : Nat} {rm : Room} {Qc : Array Value → State → Outcome → State → Prop} {As rest st0 : List Value} {b : Nat} {host : String} (hm : gMi y bytes maxL n) (hlink : Cond.methodLinkNest own index y host ∈ lw_tbl) (hM : Met l y (ws_ y bytes maxL none) rm (gPc G (.ref b :: As) M) Qc mc ms (gA G)) (hrm : rm.cells = mc ∧ rm.slots = ms) (hR : rm.frames + 1 ≤ R.frames ∧ 8 + (maxL + 11) + rm.locals ≤ R.locals) (hst : st0 = As.reverse ++ .ref b :: rest) (hw : (rest.map fun v => v.category).sum ≤ 8) (hd : decode cc pc = .ok (.invokespecial index, 3)) (hn : As.length = n) (hf : cells + mc ≤ R.cells ∧ slots + ms ≤ R.slots) : gRun p l e R s m args below meth c G nL cells slots mc ms M pc lv st0 rest (Qc (Value.ref b :: As).toArray) := by
  subst hst
  intro H locs ls hW hS hl
  exact va_runIN (As := As) (rest := rest) hC.1 hM ⟨va_cnB n hC.ts (lw_meth hm.2.2.1) rfl hrm.1 hrm.2 (hC.K.2.2.2.2.1 _ hlink rfl) (hC.ts _ hm.2.1) hm.2.2.2.2 hR, hm.2.2.2.1, hC.ts _ hm.1⟩ ⟨gPc.blind, fun U hU hWm => ⟨rfl, by rw [hU]; exact hW, hC.K.to hS hU hWm⟩⟩ rfl hn hl.1 rfl (lv_room hw) hd hf
theorem g_U (hC : gC p s m args meth c G nL cc own nm ret) {y : MethodName} {bytes : ByteArray} {maxL mc ms n index : Nat} {rt : Option FieldType} {rm : Room} {Qc : Array Value → State → Outcome → State → Prop} {As rest st0 : List Value} {x : MethodName} {C owner : String} {b : Nat} (hm : gMu x y C owner bytes maxL rt n) (hlink : Cond.methodLink own index x ∈ lw_all) (hb : gOf G s M C b) (hM : Met l y (ws_ y bytes maxL rt) rm (gPc G (.ref b :: As) M) Qc mc ms (gA G)) (hrm : rm.cells = mc ∧ rm.slots = ms) (hR : rm.frames + 1 ≤ R.frames ∧ 8 + (maxL + 11) + rm.locals ≤ R.locals) (hst : st0 = As.reverse ++ .ref b :: rest) (hw : (rest.map fun v => v.category).sum ≤ 8) (hd : decode cc pc = .ok (.invokevirtual index, 3)) (hn : As.length = n) (hf : cells + mc ≤ R.cells ∧ slots + ms ≤ R.slots) : gRun p l e R s m args below meth c G nL cells slots mc ms M pc lv st0 rest (Qc (Value.ref b :: As).toArray) := by
  subst hst
  intro H locs ls hW hS hl
  obtain ⟨h1, h2, h3, h4, h5, h6, h7⟩ := hm
  have hT : GoodIn lw_all (va_wsU own index C owner x y (ws_ y bytes maxL rt)) := (lw_app (fun w hw => by simp only [List.mem_cons, List.not_mem_nil, or_false] at hw; rcases hw with e | e | e | e | e <;> rw [e] <;> assumption) (lw_meth h5))
  rcases h6 with h6 | h6
  · exact va_runU (As := As) (rest := rest) hC.1 hM (va_cwU n hC.ts hT rfl hrm.1 hrm.2 h6 h7 hR) ⟨gPc.blind, hb H locs hW hS, fun U hU hWm => ⟨rfl, by rw [hU]; exact hW, hC.K.to hS hU hWm⟩⟩ rfl hn hl.1 rfl (lv_room hw) hd hf
  · exact va_runU (As := As) (rest := rest) hC.1 hM (va_cwA n hC.ts hT rfl hrm.1 hrm.2 (hC.K.2.2.2.2.1 _ h6 rfl) h7 hR) ⟨gPc.blind, hb H locs hW hS, fun U hU hWm => ⟨rfl, by rw [hU]; exact hW, hC.K.to hS hU hWm⟩⟩ rfl hn hl.1 rfl (lv_room hw) hd hf
theorem g_F (hC : gC p s m args meth c G nL cc own nm ret) {y : MethodName} {bytes : ByteArray} {maxL mc ms n index : Nat} {rt : Option FieldType} {rm : Room} {Qc : Array Value → State → Outcome → State → Prop} {As rest st0 : List Value} {x : MethodName} {C : String} {b count : Nat} (hm : gMf x y C bytes maxL rt n) (hlink : Cond.methodLink own index x ∈ lw_all) (hb : gOf G s M C b) {cC : ClassId} (hat : ClassAt s C cC) (hM : Met l y (ws_ y bytes maxL rt) rm (gPc G (.ref b :: As) M) Qc mc ms (gA G)) (hrm : rm.cells = mc ∧ rm.slots = ms) (hR : rm.frames + 1 ≤ R.frames ∧ 8 + (maxL + 11) + rm.locals ≤ R.locals) (hst : st0 = As.reverse ++ .ref b :: rest) (hw : (rest.map fun v => v.category).sum ≤ 8) (hd : decode cc pc = .ok (.invokeinterface index count, 5)) (hn : As.length = n) (hf : cells + mc ≤ R.cells ∧ slots + ms ≤ R.slots) : gRun5 p l e R s m args below meth c G nL cells slots mc ms M pc lv st0 rest (Qc (Value.ref b :: As).toArray) := by
  subst hst
  intro H locs ls hW hS hl
  obtain ⟨h1, h2, h3, h4, h5, h7⟩ := hm
  have hT : GoodIn lw_all (va_wsF own index C x y (ws_ y bytes maxL rt)) := (lw_app (fun w hw => by simp only [List.mem_cons, List.not_mem_nil, or_false] at hw; rcases hw with e | e | e | e <;> rw [e] <;> assumption) (lw_meth h5))
  exact va_runF (As := As) (rest := rest) hat hC.1 hM (va_cwF n hC.ts hT rfl hrm.1 hrm.2 (hC.K.2.2.2.2.2.2.1 _ h1) h7 hR) ⟨gPc.blind, hb H locs hW hS, fun U hU hWm => ⟨rfl, by rw [hU]; exact hW, hC.K.to hS hU hWm⟩⟩ rfl hn hl.1 rfl (lv_room hw) hd hf
theorem gC.at (hC : gC p s m args meth c G nL cc own nm ret) {ci : Nat} {C : String} {T : u_T} {ty : Nat → FieldType} {N : Nat} (hI : gCI ci C T ty N) : ClassAt s C ((gD G).1 ci) := (hC.K.1.1 ci _ hI.1).2
end GJC
