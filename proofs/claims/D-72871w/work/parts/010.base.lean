/-! THE GHOST WORLD: a map from addresses to (tag, cell); tags tell groups of cells apart -/
set_option maxRecDepth 100000
abbrev gM : Type := Nat → Option ((Nat × Nat) × va_E)
def gset (M : gM) (a : Nat) (x : (Nat × Nat) × va_E) : gM := fun b => if b = a then some x else M b
theorem gset_s {M : gM} {a : Nat} {x : (Nat × Nat) × va_E} : gset M a x a = some x := if_pos rfl
theorem gset_n {M : gM} {a b : Nat} {x : (Nat × Nat) × va_E} {y : Option ((Nat × Nat) × va_E)} (h : b ≠ a) (hM : M b = y) : gset M a x b = y := (if_neg h).trans hM
theorem gset_eq {M : gM} {a b : Nat} {x : (Nat × Nat) × va_E} (h : b ≠ a) : gset M a x b = M b := if_neg h
/-- addresses apart: by tag, by class, array against object, by being free -/
theorem gne_t {M : gM} {a b : Nat} {t t' : Nat × Nat} {e e' : va_E} (h : M a = some (t, e)) (h' : M b = some (t', e')) (ht : t ≠ t') : a ≠ b := by
  intro q; subst q; rw [h] at h'; cases h'; exact ht rfl
theorem gne_c {M : gM} {a b : Nat} {t t' : Nat × Nat} {i j : Nat} {fs gs : List Value} (h : M a = some (t, .inr (i, fs))) (h' : M b = some (t', .inr (j, gs))) (hi : i ≠ j) : a ≠ b := by
  intro q; subst q; rw [h] at h'; cases h'; exact hi rfl
theorem gne_oa {M : gM} {a b : Nat} {t t' : Nat × Nat} {x : ClassId × vp_A} {y : Nat × List Value} (h : M a = some (t, .inr y)) (h' : M b = some (t', .inl x)) : a ≠ b := by
  intro q; subst q; rw [h] at h'; cases h'
theorem gne_ao {M : gM} {a b : Nat} {t t' : Nat × Nat} {x : ClassId × vp_A} {y : Nat × List Value} (h : M a = some (t, .inl x)) (h' : M b = some (t', .inr y)) : a ≠ b := by
  intro q; subst q; rw [h] at h'; cases h'
theorem gne_f {M : gM} {a b : Nat} {x : (Nat × Nat) × va_E} (h : M a = some x) (h' : M b = none) : a ≠ b := by
  intro q; subst q; rw [h] at h'; cases h'
/-- what isn't P stays -/
def gFr (P : Nat → (Nat × Nat) → Prop) (M M' : gM) : Prop := ∀ (a : Nat) (t : Nat × Nat) (e : va_E), M a = some (t, e) → ¬ P a t → M' a = some (t, e)
theorem gFr.refl {P : Nat → (Nat × Nat) → Prop} {M : gM} : gFr P M M := fun _ _ _ h _ => h
theorem gFr.trans {P : Nat → (Nat × Nat) → Prop} {M M1 M2 : gM} (h1 : gFr P M M1) (h2 : gFr P M1 M2) : gFr P M M2 := fun a t e h hp => h2 a t e (h1 a t e h hp) hp
theorem gFr.mono {P P' : Nat → (Nat × Nat) → Prop} {M M1 : gM} (h1 : gFr P M M1) (h : ∀ a t, P a t → P' a t) : gFr P' M M1 := fun a t e ha hp => h1 a t e ha (fun q => hp (h a t q))
theorem gFr.set {P : Nat → (Nat × Nat) → Prop} {M M1 : gM} {a : Nat} {t : Nat × Nat} {e : va_E} {x : (Nat × Nat) × va_E} (h1 : gFr P M M1) (ha : M1 a = some (t, e)) (hp : P a t) : gFr P M (gset M1 a x) := by
  intro b t' e' hb hn
  have h2 := h1 b t' e' hb hn
  refine gset_n ?_ h2
  intro q
  subst q
  rw [h2] at ha
  cases ha
  exact hn hp
theorem gFr.new {P : Nat → (Nat × Nat) → Prop} {M M1 : gM} {a : Nat} {x : (Nat × Nat) × va_E} (h1 : gFr P M M1) (ha : M1 a = none) : gFr P M (gset M1 a x) := by
  intro b t' e' hb hn
  have h2 := h1 b t' e' hb hn
  exact gset_n (gne_f h2 ha) h2
/-- M' is M but for the cell x at a, that was there; that is new -/
def gUp (M M' : gM) (a : Nat) (x : (Nat × Nat) × va_E) : Prop := M' a = some x ∧ ∀ b, b ≠ a → M' b = M b
def gNw (M M' : gM) (a : Nat) (x : (Nat × Nat) × va_E) : Prop := M a = none ∧ gUp M M' a x
theorem gUp.set {M : gM} {a : Nat} {x : (Nat × Nat) × va_E} : gUp M (gset M a x) a x := ⟨gset_s, fun _ h => gset_eq h⟩
theorem gNw.set {M : gM} {a : Nat} {x : (Nat × Nat) × va_E} (h : M a = none) : gNw M (gset M a x) a x := ⟨h, gUp.set⟩
theorem gUp.n {M M' : gM} {a b : Nat} {x : (Nat × Nat) × va_E} {y : Option ((Nat × Nat) × va_E)} (h : gUp M M' a x) (hb : b ≠ a) (hM : M b = y) : M' b = y := (h.2 b hb).trans hM
theorem gNw.n {M M' : gM} {a b : Nat} {x y : (Nat × Nat) × va_E} (h : gNw M M' a x) (hM : M b = some y) : M' b = some y := h.2.n (gne_f hM h.1) hM
theorem gNw.ne {M M' : gM} {a b : Nat} {x y : (Nat × Nat) × va_E} (h : gNw M M' a x) (hM : M b = some y) : b ≠ a := gne_f hM h.1
theorem gFr.up {P : Nat → (Nat × Nat) → Prop} {M0 M M' : gM} {a : Nat} {t : Nat × Nat} {e : va_E} {x : (Nat × Nat) × va_E} (h1 : gFr P M0 M) (hU : gUp M M' a x) (ha : M a = some (t, e)) (hp : P a t) : gFr P M0 M' := by
  intro b t' e' hb hn
  have h2 := h1 b t' e' hb hn
  refine hU.n ?_ h2
  intro q
  subst q
  rw [h2] at ha
  cases ha
  exact hn hp
theorem gFr.nw {P : Nat → (Nat × Nat) → Prop} {M0 M M' : gM} {a : Nat} {x : (Nat × Nat) × va_E} (h1 : gFr P M0 M) (hU : gNw M M' a x) : gFr P M0 M' := fun b t e hb hn => hU.n (h1 b t e hb hn)
/-- frames by a list of addresses -/
abbrev gL (l : List Nat) : Nat → (Nat × Nat) → Prop := fun b _ => b ∈ l
theorem gno0 {b : Nat} : b ∉ ([] : List Nat) := List.not_mem_nil
theorem gno {b a : Nat} {l : List Nat} (h : b ≠ a) (h2 : b ∉ l) : b ∉ a :: l := fun q => (List.mem_cons.mp q).elim h h2
theorem gFr.sb {l l' : List Nat} {M M' : gM} (h : gFr (gL l) M M') (hs : ∀ b ∈ l, b ∈ l') : gFr (gL l') M M' := h.mono (fun b _ q => hs b q)
/-- the parameters of a run: classes and slots, array classes, the enum's constants, the cached Integers, the law's base -/
abbrev gG : Type := va_G × (Nat → ClassId) × (Nat → Nat) × (Nat → Nat) × Nat × Nat
abbrev gD (G : gG) : va_G := G.1
abbrev gcs (G : gG) : Nat → ClassId := G.2.1
abbrev gph (G : gG) : Nat → Nat := G.2.2.1
abbrev gbx (G : gG) : Nat → Nat := G.2.2.2.1
abbrev gz (G : gG) : Nat := G.2.2.2.2.1
abbrev gca (G : gG) : Nat := G.2.2.2.2.2
def gA (G : gG) : Nat → Prop := fun q => gz G ≤ q
def TX6 : u_T := fun _ => ("", "", "", false)
def tyX6 : Nat → FieldType := fun _ => .int
def gCl : List vw_C := [(RX0, TX0, 5), (RX1, TX1, 7), (RX2, TX2, 24), (RX4, TX4, 2), (RX5, TX5, 10), (RX6, TX6, 0), (RX7, TX7, 1), (RX8, TX8, 11), (RX9, TX9, 5), (RX10, TX10, 2), (RX11, TX11, 2), (RX15, TX15, 1), (RX16, TX16, 4), (RX17, TX17, 3), (RX18, TX18, 2), (RX19, TX19, 7), (RX20, TX20, 5), (RJ3, TJ3, 4), (RJ30, TJ30, 3), (RJ34, TJ34, 5), (RJ6, TJ6, 4), (RJ23, TJ23, 6), (RJ7, TJ7, 3), (RJ37, TJ37, 4), (RJ9, TJ9, 9), (RJ21, TJ21, 6), (RJ39, TJ39, 1), (RJ41, TJ41, 4), (RJ11, TJ11, 1), (RJ42, TJ42, 3), (RJ32, TJ32, 4)]
def gTy (G : gG) : List (ClassId × FieldType) := [(gcs G 0, .int), (gcs G 1, .byte), (gcs G 2, .boolean), (gcs G 3, .object "java/lang/Object"), (gcs G 4, .object "ArbitratedBus$Node"), (gcs G 5, .object "ArbitratedBus$Bus")]
/-- a class of the worlds: its number, its fields' words -/
def gCI (ci : Nat) (C : String) (T : u_T) (ty : Nat → FieldType) (N : Nat) : Prop := gCl[ci]? = some (C, T, N) ∧ (∀ w ∈ u_ws C T N, w ∈ lw_all) ∧ (∀ k, k < N → parseFieldDescriptor (T k).2.2.1 = some (ty k)) ∧ (∀ a, a < N → ∀ b, b < N → a ≠ b → (T a).2.1 ≠ (T b).2.1)
/-- the heap holds M -/
def gW (G : gG) (M : gM) (H : Heap) : Prop := ∃ L : va_W, va_P (gD G) gCl L H ∧ va_D (gA G) L ∧ ∀ (a : Nat) (t : Nat × Nat) (e : va_E), M a = some (t, e) → ∃ k : Nat, L[k]? = some (a, e)
theorem gW.one {G : gG} {M : gM} {H : Heap} (h : gW G M H) {a : Nat} {t : Nat × Nat} {e : va_E} (ha : M a = some (t, e)) : va_P (gD G) gCl [(a, e)] H := by
  obtain ⟨L, h1, -, h3⟩ := h
  obtain ⟨k, hk⟩ := h3 a t e ha
  intro j q hj
  cases j with
  | zero => cases hj; exact h1 k _ hk
  | succ j => simp at hj
theorem gW.lt {G : gG} {M : gM} {H : Heap} (h : gW G M H) {a : Nat} {t : Nat × Nat} {e : va_E} (ha : M a = some (t, e)) : a < H.size ∧ gz G ≤ a := by
  obtain ⟨L, h1, h2, h3⟩ := h
  obtain ⟨k, hk⟩ := h3 a t e ha
  exact ⟨(h1 k _ hk).lt, h2.2 k _ hk⟩
theorem gW.free {G : gG} {M : gM} {H : Heap} (h : gW G M H) {q : Nat} (hq : H.size ≤ q) : M q = none := by
  cases hM : M q with
  | none => rfl
  | some x =>
    obtain ⟨t, e⟩ := x
    have := (h.lt hM).1
    omega
theorem gW.sub {G : gG} {M M' : gM} {H : Heap} (h : gW G M H) (hs : ∀ (a : Nat) (t : Nat × Nat) (e : va_E), M' a = some (t, e) → ∃ t', M a = some (t', e)) : gW G M' H := by
  obtain ⟨L, h1, h2, h3⟩ := h
  refine ⟨L, h1, h2, fun a t e ha => ?_⟩
  obtain ⟨t', h4⟩ := hs a t e ha
  exact h3 a t' e h4
/-- nest mates' links and casts of the tables: kept all through a run -/
def gNk : Cond → Bool
  | .fieldLinkNest _ _ _ _ _ _ => true
  | .methodLinkNest _ _ _ _ => true
  | .castable _ _ => true
  | .declares _ => true
  | _ => false
def gNest (U : State) : Prop := ∀ w, w ∈ lw_tbl → gNk w = true → va_Nw w U
theorem gNest.warm {s U : State} (hW : s.WarmedH U.vm) (h : gNest s) : gNest U := by
  intro w hw hk
  have h0 := h w hw hk
  cases w with
  | fieldLinkNest a i b n d x => exact va_Nw.warmF hW h0
  | methodLinkNest a i x y => exact va_Nw.warmM hW h0
  | castable a b => exact va_Nw.warmC hW h0
  | declares x => exact va_Nw.warmD hW h0
  | _ => cases hk
theorem gNk_tab {w : Cond} (h : gNk w = true) : w.onTables = true := by
  cases w <;> first | rfl | cases h
theorem gNest.blind {U U' : State} (hv : U'.vm = U.vm) (h : gNest U) : gNest U' := fun w hw hk => va_Nw.same (gNk_tab hk) hv.symm (h w hw hk)
/-- the interfaces' methods that are called -/
def gIf : List (String × MethodName × MethodName) := [
  ("ArbitratedBus$ByIdentifier", ⟨"java/util/Comparator", "compare", "(Ljava/lang/Object;Ljava/lang/Object;)I"⟩, ⟨"ArbitratedBus$ByIdentifier", "compare", "(Ljava/lang/Object;Ljava/lang/Object;)I"⟩),
  ("ArbitratedBus$Frame", ⟨"java/lang/Comparable", "compareTo", "(Ljava/lang/Object;)I"⟩, ⟨"ArbitratedBus$Frame", "compareTo", "(Ljava/lang/Object;)I"⟩),
  ("java/util/PriorityQueue$Itr", ⟨"java/util/Iterator", "hasNext", "()Z"⟩, ⟨"java/util/PriorityQueue$Itr", "hasNext", "()Z"⟩),
  ("java/util/PriorityQueue$Itr", ⟨"java/util/Iterator", "next", "()Ljava/lang/Object;"⟩, ⟨"java/util/PriorityQueue$Itr", "next", "()Ljava/lang/Object;"⟩),
  ("java/util/ArrayDeque$DeqIterator", ⟨"java/util/Iterator", "hasNext", "()Z"⟩, ⟨"java/util/ArrayDeque$DeqIterator", "hasNext", "()Z"⟩),
  ("java/util/ArrayDeque$DeqIterator", ⟨"java/util/Iterator", "next", "()Ljava/lang/Object;"⟩, ⟨"java/util/ArrayDeque$DeqIterator", "next", "()Ljava/lang/Object;"⟩),
  ("java/util/TreeMap$KeyIterator", ⟨"java/util/Iterator", "hasNext", "()Z"⟩, ⟨"java/util/TreeMap$PrivateEntryIterator", "hasNext", "()Z"⟩),
  ("java/util/TreeMap$KeyIterator", ⟨"java/util/Iterator", "next", "()Ljava/lang/Object;"⟩, ⟨"java/util/TreeMap$KeyIterator", "next", "()Ljava/lang/Object;"⟩),
  ("java/util/LinkedList$ListItr", ⟨"java/util/Iterator", "hasNext", "()Z"⟩, ⟨"java/util/LinkedList$ListItr", "hasNext", "()Z"⟩),
  ("java/util/LinkedList$ListItr", ⟨"java/util/Iterator", "next", "()Ljava/lang/Object;"⟩, ⟨"java/util/LinkedList$ListItr", "next", "()Ljava/lang/Object;"⟩),
  ("java/util/LinkedList$ListItr", ⟨"java/util/Iterator", "remove", "()V"⟩, ⟨"java/util/LinkedList$ListItr", "remove", "()V"⟩),
  ("ArbitratedBus$Wire$1", ⟨"java/util/Iterator", "hasNext", "()Z"⟩, ⟨"ArbitratedBus$Wire$1", "hasNext", "()Z"⟩),
  ("ArbitratedBus$Wire$1", ⟨"java/util/Iterator", "next", "()Ljava/lang/Object;"⟩, ⟨"ArbitratedBus$Wire$1", "next", "()Ljava/lang/Object;"⟩),
  ("java/util/ArrayList$Itr", ⟨"java/util/Iterator", "hasNext", "()Z"⟩, ⟨"java/util/ArrayList$Itr", "hasNext", "()Z"⟩),
  ("java/util/ArrayList$Itr", ⟨"java/util/Iterator", "next", "()Ljava/lang/Object;"⟩, ⟨"java/util/ArrayList$Itr", "next", "()Ljava/lang/Object;"⟩),
  ("java/util/TreeMap$KeySet", ⟨"java/util/Set", "iterator", "()Ljava/util/Iterator;"⟩, ⟨"java/util/TreeMap$KeySet", "iterator", "()Ljava/util/Iterator;"⟩)]
/-! WHAT HOLDS ALL THROUGH A RUN (gK), THE CONTRACTS' ENDS, THE JUDGEMENT gJ -/
set_option maxRecDepth 100000
def gPhN (i : Nat) : String := ["OUT", "SILENT", "LISTENING", "READY", "BUSY", "FLAGGING", "OVERLOADED", "DELIMITING", "PAUSING", "SUSPENDED"].getD i ""
def gPhC (i : Nat) : String := ["ArbitratedBus$Phase$1", "ArbitratedBus$Phase$2", "ArbitratedBus$Phase$3", "ArbitratedBus$Phase$4", "ArbitratedBus$Phase$5", "ArbitratedBus$Phase$6", "ArbitratedBus$Phase$7", "ArbitratedBus$Phase$8", "ArbitratedBus$Phase$9", "ArbitratedBus$Phase$10"].getD i ""
/-- the enum's constants -/
def gPh (G : gG) (U : State) (H : Heap) : Prop := ∀ i, i < 10 → va_Z "ArbitratedBus$Phase" (gPhN i) "LArbitratedBus$Phase;" (.ref (gph G i)) (gA G) U H ∧ va_O (gPhC i) (gph G i) (gA G) U H ∧ va_OF "java/lang/Enum" "ordinal" "I" (.int (nI i)) (gph G i) (gA G) U H
/-- the cached Integers, the Throwable's statics -/
def gBx (G : gG) (U : State) (H : Heap) : Prop := vb_C (gbx G) (gA G) U H ∧ va_Z "java/lang/Integer$IntegerCache" "high" "I" (.int 127) (gA G) U H ∧ va_Z "java/lang/Integer$IntegerCache" "cache" "[Ljava/lang/Integer;" (.ref (gca G)) (gA G) U H ∧ va_T (.object "java/lang/Integer") (gca G) 256 (fun k => .ref (gbx G k)) (gA G) U H ∧ va_Zq "java/lang/Throwable" "UNASSIGNED_STACK" "[Ljava/lang/StackTraceElement;" (gA G) U H ∧ va_Zq "java/lang/Throwable" "SUPPRESSED_SENTINEL" "Ljava/util/List;" (gA G) U H
def gAO (U : State) : Prop := va_AO "java/lang/Object" U ∧ va_AO "ArbitratedBus$Node" U ∧ va_AO "ArbitratedBus$Bus" U
def gIfs (U : State) : Prop := ∀ q ∈ gIf, va_Fw q.1 q.2.1 q.2.2 U
def gInj (G : gG) : Prop := ∀ i j, i < 10 → j < 10 → gph G i = gph G j → i = j
def gK (G : gG) (U : State) : Prop := va_K (gD G) gCl (gTy G) U ∧ gPh G U U.heap ∧ gInj G ∧ gBx G U U.heap ∧ gNest U ∧ gAO U ∧ gIfs U ∧ gz G ≤ U.heap.size
theorem gIf_ok : ∀ q ∈ gIf, q.2.1.cls ≠ "java/lang/invoke/MethodHandle" ∧ q.2.1.cls ≠ "java/lang/invoke/VarHandle" := by decide +kernel
theorem gK.to {G : gG} {s U : State} {H : Heap} {locs : List Loc} (h : gK G s) (hS : va_S (gA G) s.heap H locs) (hU : U.heap = H) (hW : s.WarmedH U.vm) : gK G U := by
  obtain ⟨h1, h2, h3, ⟨b1, b2, b3, b4, b5, b6⟩, h5, ⟨c1, c2, c3⟩, h7, h8⟩ := h
  have hv := hW.alike
  subst hU
  refine ⟨h1.moved hv, fun i hi => ?_, h3, ⟨(b1.kept hS.2.1).moved hv, (b2.kept hS.2.1).moved hv, (b3.kept hS.2.1).moved hv, (b4.kept hS.2.1).moved hv, (b5.kept hS.2.1).moved hv, (b6.kept hS.2.1).moved hv⟩, h5.warm hW, ⟨c1.moved hv, c2.moved hv, c3.moved hv⟩, fun q hq => (h7 q hq).moved (gIf_ok q hq) hv, Nat.le_trans h8 hS.1⟩
  obtain ⟨a1, a2, a3⟩ := h2 i hi
  exact ⟨(a1.kept hS.2.1).moved hv, (a2.kept hS.2.1).moved hv, (a3.kept hS.2.1).moved hv⟩
theorem gK.blind {G : gG} {U U' : State} (hv : U'.vm = U.vm) (hh : U'.heap = U.heap) (h : gK G U) : gK G U' := by
  have ha : U.vm.Alike U'.vm := by rw [hv]; exact Vm.Alike.refl _
  obtain ⟨h1, h2, h3, ⟨b1, b2, b3, b4, b5, b6⟩, h5, ⟨c1, c2, c3⟩, h7, h8⟩ := h
  unfold gK
  rw [hh]
  refine ⟨h1.moved ha, fun i hi => ?_, h3, ⟨b1.moved ha, b2.moved ha, b3.moved ha, b4.moved ha, b5.moved ha, b6.moved ha⟩, h5.blind hv, ⟨c1.moved ha, c2.moved ha, c3.moved ha⟩, fun q hq => (h7 q hq).moved (gIf_ok q hq) ha, h8⟩
  obtain ⟨a1, a2, a3⟩ := h2 i hi
  exact ⟨a1.moved ha, a2.moved ha, a3.moved ha⟩
/-- a contract's start -/
def gPc (G : gG) (av : List Value) (M : gM) : Array Value → State → Prop := va_Pc av (fun U => gW G M U.heap ∧ gK G U)
theorem gPc.blind {G : gG} {av : List Value} {M : gM} : FrameBlind (gPc G av M) := fun a U g mk h => ⟨h.1, h.2.1, gK.blind (U := U) (U' := U.calling g mk a) rfl rfl h.2.2⟩
/-- its ends: answer, world, how many cells are new -/
def gQi (G : gG) (post : Int32 → gM → Nat → Prop) : Array Value → State → Outcome → State → Prop := fun _ st oc t => (∃ (r : Int32) (M' : gM) (k : Nat), oc = .returned (some (.int r)) ∧ post r M' k ∧ gW G M' t.heap ∧ t.heap.size = st.heap.size + k) ∧ va_F (gA G) st t
def gQl (G : gG) (post : Int64 → gM → Nat → Prop) : Array Value → State → Outcome → State → Prop := fun _ st oc t => (∃ (r : Int64) (M' : gM) (k : Nat), oc = .returned (some (.long r)) ∧ post r M' k ∧ gW G M' t.heap ∧ t.heap.size = st.heap.size + k) ∧ va_F (gA G) st t
def gQv (G : gG) (post : gM → Nat → Prop) : Array Value → State → Outcome → State → Prop := fun _ st oc t => (∃ (M' : gM) (k : Nat), oc = .returned none ∧ post M' k ∧ gW G M' t.heap ∧ t.heap.size = st.heap.size + k) ∧ va_F (gA G) st t
def gQq (G : gG) (post : Option Nat → gM → Nat → Prop) : Array Value → State → Outcome → State → Prop := fun _ st oc t => (∃ (r : Option Nat) (M' : gM) (k : Nat), oc = .returned (some (va_rf r)) ∧ post r M' k ∧ gW G M' t.heap ∧ t.heap.size = st.heap.size + k) ∧ va_F (gA G) st t
/-- the method's own facts -/
def gC (p : Program) (s : State) (m : MethodId) (args : Array Value) (meth : Method) (c : Code) (G : gG) (nL : Nat) (cc : ByteArray) (own nm : String) (ret : Option FieldType) : Prop :=
  CallFix p m c cc nL s args lw_all own ∧ meth.locks = false ∧ meth.sig.returnType = ret ∧ gK G s ∧ meth.name = nm
/-- the judgement: from every heap that holds M, the frame at pc with locals lv and stack st comes to Q -/
def gJ (p : Program) (l : Launch) (e : Env) (R : Room) (s : State) (m : MethodId) (args : Array Value) (below : List Frame) (meth : Method) (c : Code) (G : gG) (nL : Nat) (Q : State → Prop) (cells slots : Nat) (M : gM) (pc : Nat) (lv : List (Nat × Value)) (st : List Value) : Prop :=
  ∀ (H : Heap) (locs : List Loc) (ls : Array Slot), gW G M H → va_S (gA G) s.heap H locs → lv_has ls nL lv → W p l e R s m args below meth c H locs cells slots Q (F0 m pc ls st)
/-- a contract out of the walk of its body -/
theorem gMet {l : Launch} {y : MethodName} {cc : ByteArray} {maxL : Nat} {ret : Option FieldType} {rm : Room} {G : gG} {av : List Value} {M : gM} {Qc : Array Value → State → Outcome → State → Prop} {mc ms : Nat} (lv : List (Nat × Value)) (hy : plainName y.cls = true) (hn : (lg_sl av).length ≤ maxL) (hlv : lv_args 0 av = lv)
    (body : ∀ p e s m below meth c, gC p s m av.toArray meth c G maxL cc y.cls y.name ret → gJ p l e rm s m av.toArray below meth c G maxL (MQ below Qc av.toArray s mc ms (gA G)) 0 0 M 0 lv []) :
    Met l y (ws_ y cc maxL ret) rm (gPc G av M) Qc mc ms (gA G) := by
  refine Met.ofW (cc := cc) (maxL := maxL) (ret := ret) hy rfl ?_
  intro p e s m args below meth c s₁ B hml hv
  obtain ⟨rfl, hW, hK⟩ := hv
  have hts := atoms_spec (ws := ws_ y cc maxL ret) B.pre
  have hts : ∀ w ∈ lw_all, w.before _ s = true := fun w h => hts w (List.mem_cons_of_mem _ h)
  have hown : s.vm.findClass y.cls = some m.cls := findClass_of_methodNamed B.named
  have hnm : meth.name = y.name := (name_of_methodNamed B.named B.method).1
  have hl := lv_entry av (n := maxL) hn
  rw [lg_entry_eq]
  subst hlv
  exact body p e s m below meth c ⟨⟨B.exec, B.bytes, hml, hown, hts⟩, B.notSynchronized, B.returns, hK, hnm⟩ s.heap [] _ hW va_S.rf hl
section GJ
variable {p : Program} {l : Launch} {e : Env} {R : Room} {s : State} {m : MethodId} {args : Array Value} {below : List Frame} {meth : Method} {c : Code} {G : gG} {nL : Nat} {Q : State → Prop} {cells slots : Nat} {M : gM} {pc : Nat} {lv : List (Nat × Value)} {st : List Value} {cc : ByteArray} {own nm : String} {ret : Option FieldType}
theorem gC.hx (h : gC p s m args meth c G nL cc own nm ret) : p.tables.exec = Jvm.exec := h.1.1
theorem gC.hb (h : gC p s m args meth c G nL cc own nm ret) : c.code = cc := h.1.2.1
theorem gC.hml (h : gC p s m args meth c G nL cc own nm ret) : c.maxLocals = nL := h.1.2.2.1
theorem gC.ho (h : gC p s m args meth c G nL cc own nm ret) : s.vm.findClass own = some m.cls := h.1.2.2.2.1
theorem gC.ts (h : gC p s m args meth c G nL cc own nm ret) : ∀ w ∈ lw_all, w.before args s = true := h.1.2.2.2.2
theorem gC.lk (h : gC p s m args meth c G nL cc own nm ret) : meth.locks = false := h.2.1
theorem gC.rt (h : gC p s m args meth c G nL cc own nm ret) : meth.sig.returnType = ret := h.2.2.1
theorem gC.K (h : gC p s m args meth c G nL cc own nm ret) : gK G s := h.2.2.2.1
theorem gC.nme (h : gC p s m args meth c G nL cc own nm ret) : meth.name = nm := h.2.2.2.2
theorem gC.A (h : gC p s m args meth c G nL cc own nm ret) : ∀ q, s.heap.size ≤ q → gA G q := fun _ hq => Nat.le_trans h.K.2.2.2.2.2.2.2 hq
theorem gJ.widen {k n : Nat} (h1 : cells ≤ k) (h2 : slots ≤ n) (kk : gJ p l e R s m args below meth c G nL Q k n M pc lv st) : gJ p l e R s m args below meth c G nL Q cells slots M pc lv st := fun H locs ls hW hS hl => W.widen h1 h2 (kk H locs ls hW hS hl)
theorem gJ.sub {M' : gM} {lv' : List (Nat × Value)} (ks : List Nat) (hl' : lv_pick lv ks = lv') (kk : gJ p l e R s m args below meth c G nL Q cells slots M pc lv' st) : gJ p l e R s m args below meth c G nL Q cells slots M pc lv st := fun H locs ls hW hS hl => kk H locs ls hW hS (lv_sub hl ks hl')
theorem gJ.less {M' : gM} (hs : ∀ (a : Nat) (t : Nat × Nat) (e : va_E), M' a = some (t, e) → ∃ t', M a = some (t', e)) (kk : gJ p l e R s m args below meth c G nL Q cells slots M' pc lv st) : gJ p l e R s m args below meth c G nL Q cells slots M pc lv st := fun H locs ls hW hS hl => kk H locs ls (hW.sub hs) hS hl
def gRef (v : Value) : Prop := v = .null ∨ ∃ a, v = .ref a
theorem gRef_r {a : Nat} : gRef (.ref a) := Or.inr ⟨a, rfl⟩
theorem gRef_n : gRef .null := Or.inl rfl
theorem gRef_q {r : Option Nat} : gRef (va_rf r) := by cases r with | none => exact Or.inl rfl | some a => exact Or.inr ⟨a, rfl⟩
theorem g_iconst (hC : gC p s m args meth c G nL cc own nm ret) {n : Int} {v : Int32} (hd : decode cc pc = .ok (.iconst n, 1)) (hv : Int32.ofInt n = v) (q : Nat) (hq : pc + 1 = q) (k : gJ p l e R s m args below meth c G nL Q cells slots M q lv (.int v :: st)) : gJ p l e R s m args below meth c G nL Q cells slots M pc lv (st) := by subst hq; exact fun H locs ls hW hS hl => lv_iconst hC.hx hC.hb hd hv (k H locs ls hW hS hl)
theorem g_bipush (hC : gC p s m args meth c G nL cc own nm ret) {n : Int} {v : Int32} (hd : decode cc pc = .ok (.bipush n, 2)) (hv : (Int8.ofInt n).toInt32 = v) (q : Nat) (hq : pc + 2 = q) (k : gJ p l e R s m args below meth c G nL Q cells slots M q lv (.int v :: st)) : gJ p l e R s m args below meth c G nL Q cells slots M pc lv (st) := by subst hq; exact fun H locs ls hW hS hl => lv_bipush hC.hx hC.hb hd hv (k H locs ls hW hS hl)
theorem g_sipush (hC : gC p s m args meth c G nL cc own nm ret) {n : Int} {v : Int32} (hd : decode cc pc = .ok (.sipush n, 3)) (hv : (Int16.ofInt n).toInt32 = v) (q : Nat) (hq : pc + 3 = q) (k : gJ p l e R s m args below meth c G nL Q cells slots M q lv (.int v :: st)) : gJ p l e R s m args below meth c G nL Q cells slots M pc lv (st) := by subst hq; exact fun H locs ls hW hS hl => lv_sipush hC.hx hC.hb hd hv (k H locs ls hW hS hl)
theorem g_lconst (hC : gC p s m args meth c G nL cc own nm ret) {n : Fin 2} {v : Int64} (hd : decode cc pc = .ok (.lconst n, 1)) (hv : Int64.ofNat (n : Nat) = v) (q : Nat) (hq : pc + 1 = q) (k : gJ p l e R s m args below meth c G nL Q cells slots M q lv (.long v :: st)) : gJ p l e R s m args below meth c G nL Q cells slots M pc lv (st) := by subst hq; exact fun H locs ls hW hS hl => lv_lconst hC.hx hC.hb hd hv (k H locs ls hW hS hl)
theorem g_iload_n (hC : gC p s m args meth c G nL cc own nm ret) {kk : Fin 4} {x : Int32} (hd : decode cc pc = .ok (.iload_n kk, 1)) (j : Nat) (hj : lv[j]? = some ((kk : Nat), .int x)) (q : Nat) (hq : pc + 1 = q) (k : gJ p l e R s m args below meth c G nL Q cells slots M q lv (.int x :: st)) : gJ p l e R s m args below meth c G nL Q cells slots M pc lv st := by subst hq; exact fun H locs ls hW hS hl => lv_iload_n hC.hx hC.hb hd rfl (lv_at hl j hj) (k H locs ls hW hS hl)
theorem g_iload (hC : gC p s m args meth c G nL cc own nm ret) {i : Nat} {x : Int32} (hd : decode cc pc = .ok (.iload i, 2)) (j : Nat) (hj : lv[j]? = some (i, .int x)) (q : Nat) (hq : pc + 2 = q) (k : gJ p l e R s m args below meth c G nL Q cells slots M q lv (.int x :: st)) : gJ p l e R s m args below meth c G nL Q cells slots M pc lv st := by subst hq; exact fun H locs ls hW hS hl => lv_iload hC.hx hC.hb hd (lv_at hl j hj) (k H locs ls hW hS hl)
theorem g_lload_n (hC : gC p s m args meth c G nL cc own nm ret) {kk : Fin 4} {x : Int64} (hd : decode cc pc = .ok (.lload_n kk, 1)) (j : Nat) (hj : lv[j]? = some ((kk : Nat), .long x)) (q : Nat) (hq : pc + 1 = q) (k : gJ p l e R s m args below meth c G nL Q cells slots M q lv (.long x :: st)) : gJ p l e R s m args below meth c G nL Q cells slots M pc lv st := by subst hq; exact fun H locs ls hW hS hl => lv_lload_n hC.hx hC.hb hd rfl (lv_at hl j hj) (k H locs ls hW hS hl)
theorem g_lload (hC : gC p s m args meth c G nL cc own nm ret) {i : Nat} {x : Int64} (hd : decode cc pc = .ok (.lload i, 2)) (j : Nat) (hj : lv[j]? = some (i, .long x)) (q : Nat) (hq : pc + 2 = q) (k : gJ p l e R s m args below meth c G nL Q cells slots M q lv (.long x :: st)) : gJ p l e R s m args below meth c G nL Q cells slots M pc lv st := by subst hq; exact fun H locs ls hW hS hl => lv_lload hC.hx hC.hb hd (lv_at hl j hj) (k H locs ls hW hS hl)
theorem g_aload_n (hC : gC p s m args meth c G nL cc own nm ret) {kk : Fin 4} {v : Value} (hd : decode cc pc = .ok (.aload_n kk, 1)) (j : Nat) (hj : lv[j]? = some ((kk : Nat), v)) (hv : gRef v) (q : Nat) (hq : pc + 1 = q) (k : gJ p l e R s m args below meth c G nL Q cells slots M q lv (v :: st)) : gJ p l e R s m args below meth c G nL Q cells slots M pc lv st := by
  subst hq
  rcases hv with rfl | ⟨a, rfl⟩
  · exact fun H locs ls hW hS hl => lv_aload_nN hC.hx hC.hb hd rfl (lv_at hl j hj) (k H locs ls hW hS hl)
  · exact fun H locs ls hW hS hl => lv_aload_n hC.hx hC.hb hd rfl (lv_at hl j hj) (k H locs ls hW hS hl)
theorem g_aload (hC : gC p s m args meth c G nL cc own nm ret) {i : Nat} {v : Value} (hd : decode cc pc = .ok (.aload i, 2)) (j : Nat) (hj : lv[j]? = some (i, v)) (hv : gRef v) (q : Nat) (hq : pc + 2 = q) (k : gJ p l e R s m args below meth c G nL Q cells slots M q lv (v :: st)) : gJ p l e R s m args below meth c G nL Q cells slots M pc lv st := by
  subst hq
  rcases hv with rfl | ⟨a, rfl⟩
  · exact fun H locs ls hW hS hl => lv_aloadN hC.hx hC.hb hd (lv_at hl j hj) (k H locs ls hW hS hl)
  · exact fun H locs ls hW hS hl => lv_aload hC.hx hC.hb hd (lv_at hl j hj) (k H locs ls hW hS hl)
theorem g_istore_n (hC : gC p s m args meth c G nL cc own nm ret) {kk : Fin 4} {x : Int32} {i : Nat} (hd : decode cc pc = .ok (.istore_n kk, 1)) (hi : (kk : Nat) = i) (hn : i < nL) (lv' : List (Nat × Value)) (hl' : (i, Value.int x) :: lv.filter (fun q => !(q.1 == i) && !(q.1 + 1 == i && q.2.category == 2)) = lv') (q : Nat) (hq : pc + 1 = q) (k : gJ p l e R s m args below meth c G nL Q cells slots M q lv' st) : gJ p l e R s m args below meth c G nL Q cells slots M pc lv (.int x :: st) := by subst hq; exact fun H locs ls hW hS hl => lv_istore_n hC.hx hC.hb hd hi hl hn hl' (fun ls hl => k H locs ls hW hS hl)
theorem g_istore (hC : gC p s m args meth c G nL cc own nm ret) {x : Int32} {i : Nat} (hd : decode cc pc = .ok (.istore i, 2)) (hn : i < nL) (lv' : List (Nat × Value)) (hl' : (i, Value.int x) :: lv.filter (fun q => !(q.1 == i) && !(q.1 + 1 == i && q.2.category == 2)) = lv') (q : Nat) (hq : pc + 2 = q) (k : gJ p l e R s m args below meth c G nL Q cells slots M q lv' st) : gJ p l e R s m args below meth c G nL Q cells slots M pc lv (.int x :: st) := by subst hq; exact fun H locs ls hW hS hl => lv_istore hC.hx hC.hb hd hl hn hl' (fun ls hl => k H locs ls hW hS hl)
theorem g_lstore_n (hC : gC p s m args meth c G nL cc own nm ret) {kk : Fin 4} {x : Int64} {i : Nat} (hd : decode cc pc = .ok (.lstore_n kk, 1)) (hi : (kk : Nat) = i) (hn : i + 1 < nL) (lv' : List (Nat × Value)) (hl' : (i, Value.long x) :: lv.filter (fun q => !(q.1 == i) && (!(q.1 == i + 1) && !(q.1 + 1 == i && q.2.category == 2))) = lv') (q : Nat) (hq : pc + 1 = q) (k : gJ p l e R s m args below meth c G nL Q cells slots M q lv' st) : gJ p l e R s m args below meth c G nL Q cells slots M pc lv (.long x :: st) := by subst hq; exact fun H locs ls hW hS hl => lv_lstore_n hC.hx hC.hb hd hi hl hn hl' (fun ls hl => k H locs ls hW hS hl)
theorem g_lstore (hC : gC p s m args meth c G nL cc own nm ret) {x : Int64} {i : Nat} (hd : decode cc pc = .ok (.lstore i, 2)) (hn : i + 1 < nL) (lv' : List (Nat × Value)) (hl' : (i, Value.long x) :: lv.filter (fun q => !(q.1 == i) && (!(q.1 == i + 1) && !(q.1 + 1 == i && q.2.category == 2))) = lv') (q : Nat) (hq : pc + 2 = q) (k : gJ p l e R s m args below meth c G nL Q cells slots M q lv' st) : gJ p l e R s m args below meth c G nL Q cells slots M pc lv (.long x :: st) := by subst hq; exact fun H locs ls hW hS hl => lv_lstore hC.hx hC.hb hd hl hn hl' (fun ls hl => k H locs ls hW hS hl)
theorem g_astore_n (hC : gC p s m args meth c G nL cc own nm ret) {kk : Fin 4} {v : Value} {i : Nat} (hd : decode cc pc = .ok (.astore_n kk, 1)) (hi : (kk : Nat) = i) (hv : gRef v) (hn : i < nL) (lv' : List (Nat × Value)) (hl' : (i, v) :: lv.filter (fun q => !(q.1 == i) && !(q.1 + 1 == i && q.2.category == 2)) = lv') (q : Nat) (hq : pc + 1 = q) (k : gJ p l e R s m args below meth c G nL Q cells slots M q lv' st) : gJ p l e R s m args below meth c G nL Q cells slots M pc lv (v :: st) := by
  subst hq
  rcases hv with rfl | ⟨a, rfl⟩
  · exact fun H locs ls hW hS hl => lv_astore_nN hC.hx hC.hb hd hi hl hn hl' (fun ls hl => k H locs ls hW hS hl)
  · exact fun H locs ls hW hS hl => lv_astore_n hC.hx hC.hb hd hi hl hn hl' (fun ls hl => k H locs ls hW hS hl)
theorem g_astore (hC : gC p s m args meth c G nL cc own nm ret) {v : Value} {i : Nat} (hd : decode cc pc = .ok (.astore i, 2)) (hv : gRef v) (hn : i < nL) (lv' : List (Nat × Value)) (hl' : (i, v) :: lv.filter (fun q => !(q.1 == i) && !(q.1 + 1 == i && q.2.category == 2)) = lv') (q : Nat) (hq : pc + 2 = q) (k : gJ p l e R s m args below meth c G nL Q cells slots M q lv' st) : gJ p l e R s m args below meth c G nL Q cells slots M pc lv (v :: st) := by
  subst hq
  rcases hv with rfl | ⟨a, rfl⟩
  · exact fun H locs ls hW hS hl => lv_astoreN hC.hx hC.hb hd hl hn hl' (fun ls hl => k H locs ls hW hS hl)
  · exact fun H locs ls hW hS hl => lv_astore hC.hx hC.hb hd hl hn hl' (fun ls hl => k H locs ls hW hS hl)
theorem g_iinc (hC : gC p s m args meth c G nL cc own nm ret) {i : Nat} {n : Int} {x v : Int32} (hd : decode cc pc = .ok (.iinc i n, 3)) (j : Nat) (hj : lv[j]? = some (i, .int x)) (hv : x + Int32.ofInt n = v) (hn : i < nL) (lv' : List (Nat × Value)) (hl' : (i, Value.int v) :: lv.filter (fun q => !(q.1 == i) && !(q.1 + 1 == i && q.2.category == 2)) = lv') (q : Nat) (hq : pc + 3 = q) (k : gJ p l e R s m args below meth c G nL Q cells slots M q lv' st) : gJ p l e R s m args below meth c G nL Q cells slots M pc lv st := by subst hq; exact fun H locs ls hW hS hl => lv_iinc hC.hx hC.hb hd hl hj hv hn hl' (fun ls hl => k H locs ls hW hS hl)
theorem g_iadd (hC : gC p s m args meth c G nL cc own nm ret) {x y : Int32} (hd : decode cc pc = .ok (.iadd, 1)) (q : Nat) (hq : pc + 1 = q) (k : gJ p l e R s m args below meth c G nL Q cells slots M q lv (.int (x + y) :: st)) : gJ p l e R s m args below meth c G nL Q cells slots M pc lv (.int y :: .int x :: st) := by subst hq; exact fun H locs ls hW hS hl => lv_iadd hC.hx hC.hb hd (k H locs ls hW hS hl)
theorem g_isub (hC : gC p s m args meth c G nL cc own nm ret) {x y : Int32} (hd : decode cc pc = .ok (.isub, 1)) (q : Nat) (hq : pc + 1 = q) (k : gJ p l e R s m args below meth c G nL Q cells slots M q lv (.int (x - y) :: st)) : gJ p l e R s m args below meth c G nL Q cells slots M pc lv (.int y :: .int x :: st) := by subst hq; exact fun H locs ls hW hS hl => lv_isub hC.hx hC.hb hd (k H locs ls hW hS hl)
theorem g_imul (hC : gC p s m args meth c G nL cc own nm ret) {x y : Int32} (hd : decode cc pc = .ok (.imul, 1)) (q : Nat) (hq : pc + 1 = q) (k : gJ p l e R s m args below meth c G nL Q cells slots M q lv (.int (x * y) :: st)) : gJ p l e R s m args below meth c G nL Q cells slots M pc lv (.int y :: .int x :: st) := by subst hq; exact fun H locs ls hW hS hl => lv_imul hC.hx hC.hb hd (k H locs ls hW hS hl)
theorem g_iand (hC : gC p s m args meth c G nL cc own nm ret) {x y : Int32} (hd : decode cc pc = .ok (.iand, 1)) (q : Nat) (hq : pc + 1 = q) (k : gJ p l e R s m args below meth c G nL Q cells slots M q lv (.int (x &&& y) :: st)) : gJ p l e R s m args below meth c G nL Q cells slots M pc lv (.int y :: .int x :: st) := by subst hq; exact fun H locs ls hW hS hl => lv_iand hC.hx hC.hb hd (k H locs ls hW hS hl)
theorem g_ior (hC : gC p s m args meth c G nL cc own nm ret) {x y : Int32} (hd : decode cc pc = .ok (.ior, 1)) (q : Nat) (hq : pc + 1 = q) (k : gJ p l e R s m args below meth c G nL Q cells slots M q lv (.int (x ||| y) :: st)) : gJ p l e R s m args below meth c G nL Q cells slots M pc lv (.int y :: .int x :: st) := by subst hq; exact fun H locs ls hW hS hl => lv_ior hC.hx hC.hb hd (k H locs ls hW hS hl)
theorem g_ixor (hC : gC p s m args meth c G nL cc own nm ret) {x y : Int32} (hd : decode cc pc = .ok (.ixor, 1)) (q : Nat) (hq : pc + 1 = q) (k : gJ p l e R s m args below meth c G nL Q cells slots M q lv (.int (x ^^^ y) :: st)) : gJ p l e R s m args below meth c G nL Q cells slots M pc lv (.int y :: .int x :: st) := by subst hq; exact fun H locs ls hW hS hl => lv_ixor hC.hx hC.hb hd (k H locs ls hW hS hl)
theorem g_ishl (hC : gC p s m args meth c G nL cc own nm ret) {x y : Int32} (hd : decode cc pc = .ok (.ishl, 1)) (q : Nat) (hq : pc + 1 = q) (k : gJ p l e R s m args below meth c G nL Q cells slots M q lv (.int (x <<< (y &&& 31)) :: st)) : gJ p l e R s m args below meth c G nL Q cells slots M pc lv (.int y :: .int x :: st) := by subst hq; exact fun H locs ls hW hS hl => lv_ishl hC.hx hC.hb hd (k H locs ls hW hS hl)
theorem g_ishr (hC : gC p s m args meth c G nL cc own nm ret) {x y : Int32} (hd : decode cc pc = .ok (.ishr, 1)) (q : Nat) (hq : pc + 1 = q) (k : gJ p l e R s m args below meth c G nL Q cells slots M q lv (.int (x >>> (y &&& 31)) :: st)) : gJ p l e R s m args below meth c G nL Q cells slots M pc lv (.int y :: .int x :: st) := by subst hq; exact fun H locs ls hW hS hl => lv_ishr hC.hx hC.hb hd (k H locs ls hW hS hl)
theorem g_iushr (hC : gC p s m args meth c G nL cc own nm ret) {x y v : Int32} (hd : decode cc pc = .ok (.iushr, 1)) (hv : (x.toUInt32 >>> (y.toUInt32 &&& Int32.toUInt32 31)).toInt32 = v) (q : Nat) (hq : pc + 1 = q) (k : gJ p l e R s m args below meth c G nL Q cells slots M q lv (.int v :: st)) : gJ p l e R s m args below meth c G nL Q cells slots M pc lv (.int y :: .int x :: st) := by subst hq; exact fun H locs ls hW hS hl => lv_iushr hC.hx hC.hb hd hv (k H locs ls hW hS hl)
theorem g_idiv (hC : gC p s m args meth c G nL cc own nm ret) {x y : Int32} (hd : decode cc pc = .ok (.idiv, 1)) (hne : ¬ y = 0) (q : Nat) (hq : pc + 1 = q) (k : gJ p l e R s m args below meth c G nL Q cells slots M q lv (.int (x / y) :: st)) : gJ p l e R s m args below meth c G nL Q cells slots M pc lv (.int y :: .int x :: st) := by subst hq; exact fun H locs ls hW hS hl => lv_idiv hC.hx hC.hb hd hne (k H locs ls hW hS hl)
theorem g_irem (hC : gC p s m args meth c G nL cc own nm ret) {x y : Int32} (hd : decode cc pc = .ok (.irem, 1)) (hne : ¬ y = 0) (q : Nat) (hq : pc + 1 = q) (k : gJ p l e R s m args below meth c G nL Q cells slots M q lv (.int (x - x / y * y) :: st)) : gJ p l e R s m args below meth c G nL Q cells slots M pc lv (.int y :: .int x :: st) := by subst hq; exact fun H locs ls hW hS hl => lv_irem hC.hx hC.hb hd hne (k H locs ls hW hS hl)
theorem g_ladd (hC : gC p s m args meth c G nL cc own nm ret) {x y : Int64} (hd : decode cc pc = .ok (.ladd, 1)) (q : Nat) (hq : pc + 1 = q) (k : gJ p l e R s m args below meth c G nL Q cells slots M q lv (.long (x + y) :: st)) : gJ p l e R s m args below meth c G nL Q cells slots M pc lv (.long y :: .long x :: st) := by subst hq; exact fun H locs ls hW hS hl => lv_ladd hC.hx hC.hb hd (k H locs ls hW hS hl)
theorem g_lmul (hC : gC p s m args meth c G nL cc own nm ret) {x y : Int64} (hd : decode cc pc = .ok (.lmul, 1)) (q : Nat) (hq : pc + 1 = q) (k : gJ p l e R s m args below meth c G nL Q cells slots M q lv (.long (x * y) :: st)) : gJ p l e R s m args below meth c G nL Q cells slots M pc lv (.long y :: .long x :: st) := by subst hq; exact fun H locs ls hW hS hl => lv_lmul hC.hx hC.hb hd (k H locs ls hW hS hl)
theorem g_i2l (hC : gC p s m args meth c G nL cc own nm ret) {x : Int32} (hd : decode cc pc = .ok (.i2l, 1)) (q : Nat) (hq : pc + 1 = q) (k : gJ p l e R s m args below meth c G nL Q cells slots M q lv (.long x.toInt64 :: st)) : gJ p l e R s m args below meth c G nL Q cells slots M pc lv (.int x :: st) := by subst hq; exact fun H locs ls hW hS hl => lv_i2l hC.hx hC.hb hd rfl (k H locs ls hW hS hl)
theorem g_i2b (hC : gC p s m args meth c G nL cc own nm ret) {x : Int32} (hd : decode cc pc = .ok (.i2b, 1)) (q : Nat) (hq : pc + 1 = q) (k : gJ p l e R s m args below meth c G nL Q cells slots M q lv (.int x.toInt8.toInt32 :: st)) : gJ p l e R s m args below meth c G nL Q cells slots M pc lv (.int x :: st) := by subst hq; exact fun H locs ls hW hS hl => lv_i2b hC.hx hC.hb hd rfl (k H locs ls hW hS hl)
theorem g_dup (hC : gC p s m args meth c G nL cc own nm ret) {va : Value} (hd : decode cc pc = .ok (.dup, 1)) (hva : va.category = 1) (q : Nat) (hq : pc + 1 = q) (k : gJ p l e R s m args below meth c G nL Q cells slots M q lv (va :: va :: st)) : gJ p l e R s m args below meth c G nL Q cells slots M pc lv (va :: st) := by subst hq; exact fun H locs ls hW hS hl => lv_dup hC.hx hC.hb hd hva (k H locs ls hW hS hl)
theorem g_pop (hC : gC p s m args meth c G nL cc own nm ret) {va : Value} (hd : decode cc pc = .ok (.pop, 1)) (hva : va.category = 1) (q : Nat) (hq : pc + 1 = q) (k : gJ p l e R s m args below meth c G nL Q cells slots M q lv (st)) : gJ p l e R s m args below meth c G nL Q cells slots M pc lv (va :: st) := by subst hq; exact fun H locs ls hW hS hl => lv_pop hC.hx hC.hb hd hva (k H locs ls hW hS hl)
theorem g_dup_x1 (hC : gC p s m args meth c G nL cc own nm ret) {va vb : Value} (hd : decode cc pc = .ok (.dup_x1, 1)) (hva : va.category = 1) (hvb : vb.category = 1) (q : Nat) (hq : pc + 1 = q) (k : gJ p l e R s m args below meth c G nL Q cells slots M q lv (va :: vb :: va :: st)) : gJ p l e R s m args below meth c G nL Q cells slots M pc lv (va :: vb :: st) := by subst hq; exact fun H locs ls hW hS hl => lv_dup_x1 hC.hx hC.hb hd hva hvb (k H locs ls hW hS hl)
theorem g_dup2 (hC : gC p s m args meth c G nL cc own nm ret) {va vb : Value} (hd : decode cc pc = .ok (.dup2, 1)) (hva : va.category = 1) (hvb : vb.category = 1) (q : Nat) (hq : pc + 1 = q) (k : gJ p l e R s m args below meth c G nL Q cells slots M q lv (va :: vb :: va :: vb :: st)) : gJ p l e R s m args below meth c G nL Q cells slots M pc lv (va :: vb :: st) := by subst hq; exact fun H locs ls hW hS hl => lv_dup2_11 hC.hx hC.hb hd hva hvb (k H locs ls hW hS hl)
theorem g_null (hC : gC p s m args meth c G nL cc own nm ret)  (hd : decode cc pc = .ok (.aconst_null, 1)) (q : Nat) (hq : pc + 1 = q) (k : gJ p l e R s m args below meth c G nL Q cells slots M q lv (.null :: st)) : gJ p l e R s m args below meth c G nL Q cells slots M pc lv (st) := by subst hq; exact fun H locs ls hW hS hl => lv_null hC.hx hC.hb hd (k H locs ls hW hS hl)
theorem g_if_eq (hC : gC p s m args meth c G nL cc own nm ret) {x : Int32} {off : Int} (hd : decode cc pc = .ok (.ifCond .eq off, 3)) (tgt : Nat) (ht : (pc : Int) + off = (tgt : Int)) (q : Nat) (hq : pc + 3 = q) (k1 : x = 0 → gJ p l e R s m args below meth c G nL Q cells slots M tgt lv st) (k2 : ¬ x = 0 → gJ p l e R s m args below meth c G nL Q cells slots M q lv st) : gJ p l e R s m args below meth c G nL Q cells slots M pc lv (.int x :: st) := by subst hq; exact fun H locs ls hW hS hl => lv_if_eq hC.hx hC.hb hd ht (fun h => k1 h H locs ls hW hS hl) (fun h => k2 h H locs ls hW hS hl)
theorem g_icmp_eq (hC : gC p s m args meth c G nL cc own nm ret) {x y : Int32} {off : Int} (hd : decode cc pc = .ok (.if_icmp .eq off, 3)) (tgt : Nat) (ht : (pc : Int) + off = (tgt : Int)) (q : Nat) (hq : pc + 3 = q) (k1 : x = y → gJ p l e R s m args below meth c G nL Q cells slots M tgt lv st) (k2 : ¬ x = y → gJ p l e R s m args below meth c G nL Q cells slots M q lv st) : gJ p l e R s m args below meth c G nL Q cells slots M pc lv (.int y :: .int x :: st) := by subst hq; exact fun H locs ls hW hS hl => lv_icmp_eq hC.hx hC.hb hd ht (fun h => k1 h H locs ls hW hS hl) (fun h => k2 h H locs ls hW hS hl)
theorem g_if_ne (hC : gC p s m args meth c G nL cc own nm ret) {x : Int32} {off : Int} (hd : decode cc pc = .ok (.ifCond .ne off, 3)) (tgt : Nat) (ht : (pc : Int) + off = (tgt : Int)) (q : Nat) (hq : pc + 3 = q) (k1 : ¬ x = 0 → gJ p l e R s m args below meth c G nL Q cells slots M tgt lv st) (k2 : x = 0 → gJ p l e R s m args below meth c G nL Q cells slots M q lv st) : gJ p l e R s m args below meth c G nL Q cells slots M pc lv (.int x :: st) := by subst hq; exact fun H locs ls hW hS hl => lv_if_ne hC.hx hC.hb hd ht (fun h => k1 h H locs ls hW hS hl) (fun h => k2 h H locs ls hW hS hl)
theorem g_icmp_ne (hC : gC p s m args meth c G nL cc own nm ret) {x y : Int32} {off : Int} (hd : decode cc pc = .ok (.if_icmp .ne off, 3)) (tgt : Nat) (ht : (pc : Int) + off = (tgt : Int)) (q : Nat) (hq : pc + 3 = q) (k1 : ¬ x = y → gJ p l e R s m args below meth c G nL Q cells slots M tgt lv st) (k2 : x = y → gJ p l e R s m args below meth c G nL Q cells slots M q lv st) : gJ p l e R s m args below meth c G nL Q cells slots M pc lv (.int y :: .int x :: st) := by subst hq; exact fun H locs ls hW hS hl => lv_icmp_ne hC.hx hC.hb hd ht (fun h => k1 h H locs ls hW hS hl) (fun h => k2 h H locs ls hW hS hl)
theorem g_if_lt (hC : gC p s m args meth c G nL cc own nm ret) {x : Int32} {off : Int} (hd : decode cc pc = .ok (.ifCond .lt off, 3)) (tgt : Nat) (ht : (pc : Int) + off = (tgt : Int)) (q : Nat) (hq : pc + 3 = q) (k1 : x < 0 → gJ p l e R s m args below meth c G nL Q cells slots M tgt lv st) (k2 : ¬ x < 0 → gJ p l e R s m args below meth c G nL Q cells slots M q lv st) : gJ p l e R s m args below meth c G nL Q cells slots M pc lv (.int x :: st) := by subst hq; exact fun H locs ls hW hS hl => lv_if_lt hC.hx hC.hb hd ht (fun h => k1 h H locs ls hW hS hl) (fun h => k2 h H locs ls hW hS hl)
theorem g_icmp_lt (hC : gC p s m args meth c G nL cc own nm ret) {x y : Int32} {off : Int} (hd : decode cc pc = .ok (.if_icmp .lt off, 3)) (tgt : Nat) (ht : (pc : Int) + off = (tgt : Int)) (q : Nat) (hq : pc + 3 = q) (k1 : x < y → gJ p l e R s m args below meth c G nL Q cells slots M tgt lv st) (k2 : ¬ x < y → gJ p l e R s m args below meth c G nL Q cells slots M q lv st) : gJ p l e R s m args below meth c G nL Q cells slots M pc lv (.int y :: .int x :: st) := by subst hq; exact fun H locs ls hW hS hl => lv_icmp_lt hC.hx hC.hb hd ht (fun h => k1 h H locs ls hW hS hl) (fun h => k2 h H locs ls hW hS hl)
theorem g_if_ge (hC : gC p s m args meth c G nL cc own nm ret) {x : Int32} {off : Int} (hd : decode cc pc = .ok (.ifCond .ge off, 3)) (tgt : Nat) (ht : (pc : Int) + off = (tgt : Int)) (q : Nat) (hq : pc + 3 = q) (k1 : 0 ≤ x → gJ p l e R s m args below meth c G nL Q cells slots M tgt lv st) (k2 : ¬ 0 ≤ x → gJ p l e R s m args below meth c G nL Q cells slots M q lv st) : gJ p l e R s m args below meth c G nL Q cells slots M pc lv (.int x :: st) := by subst hq; exact fun H locs ls hW hS hl => lv_if_ge hC.hx hC.hb hd ht (fun h => k1 h H locs ls hW hS hl) (fun h => k2 h H locs ls hW hS hl)
theorem g_icmp_ge (hC : gC p s m args meth c G nL cc own nm ret) {x y : Int32} {off : Int} (hd : decode cc pc = .ok (.if_icmp .ge off, 3)) (tgt : Nat) (ht : (pc : Int) + off = (tgt : Int)) (q : Nat) (hq : pc + 3 = q) (k1 : y ≤ x → gJ p l e R s m args below meth c G nL Q cells slots M tgt lv st) (k2 : ¬ y ≤ x → gJ p l e R s m args below meth c G nL Q cells slots M q lv st) : gJ p l e R s m args below meth c G nL Q cells slots M pc lv (.int y :: .int x :: st) := by subst hq; exact fun H locs ls hW hS hl => lv_icmp_ge hC.hx hC.hb hd ht (fun h => k1 h H locs ls hW hS hl) (fun h => k2 h H locs ls hW hS hl)
theorem g_if_gt (hC : gC p s m args meth c G nL cc own nm ret) {x : Int32} {off : Int} (hd : decode cc pc = .ok (.ifCond .gt off, 3)) (tgt : Nat) (ht : (pc : Int) + off = (tgt : Int)) (q : Nat) (hq : pc + 3 = q) (k1 : 0 < x → gJ p l e R s m args below meth c G nL Q cells slots M tgt lv st) (k2 : ¬ 0 < x → gJ p l e R s m args below meth c G nL Q cells slots M q lv st) : gJ p l e R s m args below meth c G nL Q cells slots M pc lv (.int x :: st) := by subst hq; exact fun H locs ls hW hS hl => lv_if_gt hC.hx hC.hb hd ht (fun h => k1 h H locs ls hW hS hl) (fun h => k2 h H locs ls hW hS hl)
theorem g_icmp_gt (hC : gC p s m args meth c G nL cc own nm ret) {x y : Int32} {off : Int} (hd : decode cc pc = .ok (.if_icmp .gt off, 3)) (tgt : Nat) (ht : (pc : Int) + off = (tgt : Int)) (q : Nat) (hq : pc + 3 = q) (k1 : y < x → gJ p l e R s m args below meth c G nL Q cells slots M tgt lv st) (k2 : ¬ y < x → gJ p l e R s m args below meth c G nL Q cells slots M q lv st) : gJ p l e R s m args below meth c G nL Q cells slots M pc lv (.int y :: .int x :: st) := by subst hq; exact fun H locs ls hW hS hl => lv_icmp_gt hC.hx hC.hb hd ht (fun h => k1 h H locs ls hW hS hl) (fun h => k2 h H locs ls hW hS hl)
theorem g_if_le (hC : gC p s m args meth c G nL cc own nm ret) {x : Int32} {off : Int} (hd : decode cc pc = .ok (.ifCond .le off, 3)) (tgt : Nat) (ht : (pc : Int) + off = (tgt : Int)) (q : Nat) (hq : pc + 3 = q) (k1 : x ≤ 0 → gJ p l e R s m args below meth c G nL Q cells slots M tgt lv st) (k2 : ¬ x ≤ 0 → gJ p l e R s m args below meth c G nL Q cells slots M q lv st) : gJ p l e R s m args below meth c G nL Q cells slots M pc lv (.int x :: st) := by subst hq; exact fun H locs ls hW hS hl => lv_if_le hC.hx hC.hb hd ht (fun h => k1 h H locs ls hW hS hl) (fun h => k2 h H locs ls hW hS hl)
theorem g_icmp_le (hC : gC p s m args meth c G nL cc own nm ret) {x y : Int32} {off : Int} (hd : decode cc pc = .ok (.if_icmp .le off, 3)) (tgt : Nat) (ht : (pc : Int) + off = (tgt : Int)) (q : Nat) (hq : pc + 3 = q) (k1 : x ≤ y → gJ p l e R s m args below meth c G nL Q cells slots M tgt lv st) (k2 : ¬ x ≤ y → gJ p l e R s m args below meth c G nL Q cells slots M q lv st) : gJ p l e R s m args below meth c G nL Q cells slots M pc lv (.int y :: .int x :: st) := by subst hq; exact fun H locs ls hW hS hl => lv_icmp_le hC.hx hC.hb hd ht (fun h => k1 h H locs ls hW hS hl) (fun h => k2 h H locs ls hW hS hl)
theorem g_goto (hC : gC p s m args meth c G nL cc own nm ret) {off : Int} (hd : decode cc pc = .ok (.goto off, 3)) (tgt : Nat) (ht : (pc : Int) + off = (tgt : Int)) (k : gJ p l e R s m args below meth c G nL Q cells slots M tgt lv st) : gJ p l e R s m args below meth c G nL Q cells slots M pc lv st := fun H locs ls hW hS hl => lv_goto hC.hx hC.hb hd ht (k H locs ls hW hS hl)
theorem gW.pick {G : gG} {M : gM} {H : Heap} (h : gW G M H) {a : Nat} {t : Nat × Nat} {e : va_E} (ha : M a = some (t, e)) : ∃ (L : va_W) (k : Nat), va_P (gD G) gCl L H ∧ va_D (gA G) L ∧ L[k]? = some (a, e) ∧ ∀ (e' : va_E) (H1 : Heap), va_P (gD G) gCl (L.set k (a, e')) H1 → va_D (gA G) (L.set k (a, e')) → gW G (gset M a (t, e')) H1 := by
  obtain ⟨L, h1, h2, h3⟩ := h
  obtain ⟨k, hk⟩ := h3 a t e ha
  have hl := (List.getElem?_eq_some_iff.mp hk).1
  refine ⟨L, k, h1, h2, hk, fun e' H1 g1 g2 => ⟨_, g1, g2, fun b t' e'' hb => ?_⟩⟩
  by_cases hba : b = a
  · subst hba
    rw [gset_s] at hb
    cases hb
    exact ⟨k, List.getElem?_set_self hl⟩
  · rw [gset_eq hba] at hb
    obtain ⟨j, hj⟩ := h3 b t' e'' hb
    have hjk : j ≠ k := by
      intro q
      subst q
      rw [hk] at hj
      cases hj
      exact hba rfl
    exact ⟨j, by rw [List.getElem?_set_ne (Ne.symm hjk)]; exact hj⟩
theorem gW.grow {G : gG} {M : gM} {L : va_W} {H1 : Heap} {q : Nat} {e : va_E} (t : Nat × Nat) (h3 : ∀ (a : Nat) (t : Nat × Nat) (e : va_E), M a = some (t, e) → ∃ k : Nat, L[k]? = some (a, e)) (g1 : va_P (gD G) gCl (L ++ [(q, e)]) H1) (g2 : va_D (gA G) (L ++ [(q, e)])) : M q = none ∧ gW G (gset M q (t, e)) H1 := by
  have hlast : (L ++ [(q, e)])[L.length]? = some (q, e) := by simp
  have old : ∀ (a : Nat) (t : Nat × Nat) (e' : va_E), M a = some (t, e') → a ≠ q ∧ ∃ k : Nat, (L ++ [(q, e)])[k]? = some (a, e') := by
    intro a t' e' ha
    obtain ⟨k, hk⟩ := h3 a t' e' ha
    have hl := (List.getElem?_eq_some_iff.mp hk).1
    have hk2 : (L ++ [(q, e)])[k]? = some (a, e') := by rw [List.getElem?_append_left hl]; exact hk
    refine ⟨fun hq => ?_, k, hk2⟩
    have := g2.1 k L.length _ _ hk2 hlast hq
    omega
  refine ⟨?_, _, g1, g2, fun b t' e' hb => ?_⟩
  · cases hM : M q with
    | none => rfl
    | some x => obtain ⟨t', e'⟩ := x; exact absurd rfl (old q t' e' hM).1
  · by_cases hbq : b = q
    · subst hbq
      rw [gset_s] at hb
      cases hb
      exact ⟨_, hlast⟩
    · rw [gset_eq hbq] at hb
      exact (old b t' e' hb).2
theorem g_lcmp (hC : gC p s m args meth c G nL cc own nm ret) {x y : Int64} (hd : decode cc pc = .ok (.lcmp, 1)) (q : Nat) (hq : pc + 1 = q) (k : gJ p l e R s m args below meth c G nL Q cells slots M q lv (.int (lg_cmp x y) :: st)) : gJ p l e R s m args below meth c G nL Q cells slots M pc lv (.long y :: .long x :: st) := by
  subst hq
  intro H locs ls hW hS hl
  refine W.lcmp hC.hx hC.hb hd ?_
  exact k H locs ls hW hS hl
theorem g_acmp_eq (hC : gC p s m args meth c G nL cc own nm ret) {rx ry : Option Nat} {off : Int} (hd : decode cc pc = .ok (.if_acmp .eq off, 3)) (tgt : Nat) (ht : (pc : Int) + off = (tgt : Int)) (q : Nat) (hq : pc + 3 = q) (k1 : rx = ry → gJ p l e R s m args below meth c G nL Q cells slots M tgt lv st) (k2 : ¬ rx = ry → gJ p l e R s m args below meth c G nL Q cells slots M q lv st) : gJ p l e R s m args below meth c G nL Q cells slots M pc lv (va_rf ry :: va_rf rx :: st) := by
  subst hq
  exact fun H locs ls hW hS hl => lv_acmp_eq hC.hx hC.hb hd ht (fun h => k1 h H locs ls hW hS hl) (fun h => k2 h H locs ls hW hS hl)
theorem g_acmp_ne (hC : gC p s m args meth c G nL cc own nm ret) {rx ry : Option Nat} {off : Int} (hd : decode cc pc = .ok (.if_acmp .ne off, 3)) (tgt : Nat) (ht : (pc : Int) + off = (tgt : Int)) (q : Nat) (hq : pc + 3 = q) (k1 : ¬ rx = ry → gJ p l e R s m args below meth c G nL Q cells slots M tgt lv st) (k2 : rx = ry → gJ p l e R s m args below meth c G nL Q cells slots M q lv st) : gJ p l e R s m args below meth c G nL Q cells slots M pc lv (va_rf ry :: va_rf rx :: st) := by
  subst hq
  exact fun H locs ls hW hS hl => lv_acmp_ne hC.hx hC.hb hd ht (fun h => k1 h H locs ls hW hS hl) (fun h => k2 h H locs ls hW hS hl)
theorem g_ifnull (hC : gC p s m args meth c G nL cc own nm ret) {r : Option Nat} {off : Int} (hd : decode cc pc = .ok (.ifnull off, 3)) (tgt : Nat) (ht : (pc : Int) + off = (tgt : Int)) (q : Nat) (hq : pc + 3 = q) (k1 : r = none → gJ p l e R s m args below meth c G nL Q cells slots M tgt lv st) (k2 : ∀ a, r = some a → gJ p l e R s m args below meth c G nL Q cells slots M q lv st) : gJ p l e R s m args below meth c G nL Q cells slots M pc lv (va_rf r :: st) := by
  subst hq
  intro H locs ls hW hS hl
  cases r with
  | none => exact lv_ifnullN hC.hx hC.hb hd ht (k1 rfl H locs ls hW hS hl)
  | some a => exact lv_ifnull hC.hx hC.hb hd (k2 a rfl H locs ls hW hS hl)
theorem g_ifnonnull (hC : gC p s m args meth c G nL cc own nm ret) {r : Option Nat} {off : Int} (hd : decode cc pc = .ok (.ifnonnull off, 3)) (tgt : Nat) (ht : (pc : Int) + off = (tgt : Int)) (q : Nat) (hq : pc + 3 = q) (k1 : ∀ a, r = some a → gJ p l e R s m args below meth c G nL Q cells slots M tgt lv st) (k2 : r = none → gJ p l e R s m args below meth c G nL Q cells slots M q lv st) : gJ p l e R s m args below meth c G nL Q cells slots M pc lv (va_rf r :: st) := by
  subst hq
  intro H locs ls hW hS hl
  cases r with
  | none => exact lv_ifnonnullN hC.hx hC.hb hd (k2 rfl H locs ls hW hS hl)
  | some a => exact lv_ifnonnull hC.hx hC.hb hd ht (k1 a rfl H locs ls hW hS hl)
/-! fields -/
theorem g_get (hC : gC p s m args meth c G nL cc own nm ret) {ci : Nat} {C : String} {T : u_T} {ty : Nat → FieldType} {N : Nat} (hI : gCI ci C T ty N) {a : Nat} {t : Nat × Nat} {fs : List Value} (ha : M a = some (t, .inr (ci, fs))) (j : Nat) (hj : j < N) {index : Nat} (hlink : Cond.fieldLink own index (T j).1 (T j).2.1 (T j).2.2.1 ∈ lw_all) {v : Value} (hv : fs[j]? = some v) (hd : decode cc pc = .ok (.getfield index, 3)) (q : Nat) (hq : pc + 3 = q)
    (k : gJ p l e R s m args below meth c G nL Q cells slots M q lv (v :: st)) : gJ p l e R s m args below meth c G nL Q cells slots M pc lv (.ref a :: st) := by
  subst hq
  exact fun H locs ls hW hS hl => va_get hC.hx hC.hb hC.ts hI.2.1 hC.ho hC.K.1 (hW.one ha) 0 rfl hI.1 j hj (hC.ts _ hlink) (fun _ h => h) hv hd (k H locs ls hW hS hl)
theorem g_getN (hC : gC p s m args meth c G nL cc own nm ret) {ci : Nat} {C : String} {T : u_T} {ty : Nat → FieldType} {N : Nat} (hI : gCI ci C T ty N) {a : Nat} {t : Nat × Nat} {fs : List Value} (ha : M a = some (t, .inr (ci, fs))) (j : Nat) (hj : j < N) {index : Nat} {host : String} (hlink : Cond.fieldLinkNest own index (T j).1 (T j).2.1 (T j).2.2.1 host ∈ lw_tbl) {v : Value} (hv : fs[j]? = some v) (hd : decode cc pc = .ok (.getfield index, 3)) (q : Nat) (hq : pc + 3 = q)
    (k : gJ p l e R s m args below meth c G nL Q cells slots M q lv (v :: st)) : gJ p l e R s m args below meth c G nL Q cells slots M pc lv (.ref a :: st) := by
  subst hq
  exact fun H locs ls hW hS hl => va_getN hC.hx hC.hb hC.ts hI.2.1 hC.ho hC.K.1 (hW.one ha) 0 rfl hI.1 j hj (va_Nw.use rfl (hC.K.2.2.2.2.1 _ hlink rfl)) (fun _ h => h) hv hd (k H locs ls hW hS hl)
theorem g_put (hC : gC p s m args meth c G nL cc own nm ret) {ci : Nat} {C : String} {T : u_T} {ty : Nat → FieldType} {N : Nat} (hI : gCI ci C T ty N) {a : Nat} {t : Nat × Nat} {fs : List Value} (ha : M a = some (t, .inr (ci, fs))) (j : Nat) (hj : j < N) {index : Nat} (hlink : Cond.fieldLink own index (T j).1 (T j).2.1 (T j).2.2.1 ∈ lw_all) (hfin : (T j).2.2.2 = false) {v : Value} (hn : narrow (ty j) v = v) (hf : fits (ty j) v = true) (hl9 : j < fs.length) (hd : decode cc pc = .ok (.putfield index, 3)) {fs' : List Value} (hfs : fs.set j v = fs') (q : Nat) (hq : pc + 3 = q)
    (k : ∀ M', gUp M M' a (t, .inr (ci, fs')) → gJ p l e R s m args below meth c G nL Q cells slots M' q lv st) : gJ p l e R s m args below meth c G nL Q cells slots M pc lv (v :: .ref a :: st) := by
  subst hq
  subst hfs
  intro H locs ls hW hS hl
  obtain ⟨L, kx, g1, g2, g3, g4⟩ := hW.pick ha
  exact va_put hC.hx hC.hb hC.ts hI.2.1 ty hI.2.2.1 hI.2.2.2 hC.ho hC.K.1 g1 g2 hS kx g3 hI.1 j hj (hC.ts _ hlink) (fun _ h => h) hfin (hI.2.2.1 j hj) hn hf hl9 hd (fun H1 locs1 e1 e2 e3 => k _ gUp.set H1 locs1 ls (g4 _ _ e1 e2) e3 hl)
theorem g_putN (hC : gC p s m args meth c G nL cc own nm ret) {ci : Nat} {C : String} {T : u_T} {ty : Nat → FieldType} {N : Nat} (hI : gCI ci C T ty N) {a : Nat} {t : Nat × Nat} {fs : List Value} (ha : M a = some (t, .inr (ci, fs))) (j : Nat) (hj : j < N) {index : Nat} {host : String} (hlink : Cond.fieldLinkNest own index (T j).1 (T j).2.1 (T j).2.2.1 host ∈ lw_tbl) (hfin : (T j).2.2.2 = false) {v : Value} (hn : narrow (ty j) v = v) (hf : fits (ty j) v = true) (hl9 : j < fs.length) (hd : decode cc pc = .ok (.putfield index, 3)) {fs' : List Value} (hfs : fs.set j v = fs') (q : Nat) (hq : pc + 3 = q)
    (k : ∀ M', gUp M M' a (t, .inr (ci, fs')) → gJ p l e R s m args below meth c G nL Q cells slots M' q lv st) : gJ p l e R s m args below meth c G nL Q cells slots M pc lv (v :: .ref a :: st) := by
  subst hq
  subst hfs
  intro H locs ls hW hS hl
  obtain ⟨L, kx, g1, g2, g3, g4⟩ := hW.pick ha
  exact va_putN hC.hx hC.hb hC.ts hI.2.1 ty hI.2.2.1 hI.2.2.2 hC.ho hC.K.1 g1 g2 hS kx g3 hI.1 j hj (va_Nw.use rfl (hC.K.2.2.2.2.1 _ hlink rfl)) (fun _ h => h) hfin (hI.2.2.1 j hj) hn hf hl9 hd (fun H1 locs1 e1 e2 e3 => k _ gUp.set H1 locs1 ls (g4 _ _ e1 e2) e3 hl)
theorem g_putF (hC : gC p s m args meth c G nL cc own "<init>" ret) {ci : Nat} {C : String} {T : u_T} {ty : Nat → FieldType} {N : Nat} (hI : gCI ci C T ty N) {a : Nat} {t : Nat × Nat} {fs : List Value} (ha : M a = some (t, .inr (ci, fs))) (j : Nat) (hj : j < N) {index : Nat} (hlink : Cond.fieldLink own index (T j).1 (T j).2.1 (T j).2.2.1 ∈ lw_all) (hfin : (T j).2.2.2 = true) (hdecl : (T j).1 = own) {v : Value} (hn : narrow (ty j) v = v) (hf : fits (ty j) v = true) (hl9 : j < fs.length) (hd : decode cc pc = .ok (.putfield index, 3)) {fs' : List Value} (hfs : fs.set j v = fs') (q : Nat) (hq : pc + 3 = q)
    (k : ∀ M', gUp M M' a (t, .inr (ci, fs')) → gJ p l e R s m args below meth c G nL Q cells slots M' q lv st) : gJ p l e R s m args below meth c G nL Q cells slots M pc lv (v :: .ref a :: st) := by
  subst hq
  subst hfs
  intro H locs ls hW hS hl
  obtain ⟨L, kx, g1, g2, g3, g4⟩ := hW.pick ha
  exact va_putF hC.hx hC.hb hC.ts hI.2.1 ty hI.2.2.1 hI.2.2.2 hC.ho hC.K.1 g1 g2 hS kx g3 hI.1 j hj (hC.ts _ hlink) (fun _ h => h) hfin hC.nme hdecl (hI.2.2.1 j hj) hn hf hl9 hd (fun H1 locs1 e1 e2 e3 => k _ gUp.set H1 locs1 ls (g4 _ _ e1 e2) e3 hl)
/-! new -/
theorem g_new (hC : gC p s m args meth c G nL cc own nm ret) {ci : Nat} {C : String} {T : u_T} {ty : Nat → FieldType} {N : Nat} (hI : gCI ci C T ty N) {index : Nat} (hlink : Cond.classLink own index C ∈ lw_all) (hins : Cond.instantiable C N ∈ lw_all) (hini : Cond.initialized C ∈ lw_all) {fs : List Value} (hfs : ∀ j, j < N → defaultValue (ty j) = vp_V fs j) (t : Nat × Nat) (hcells : cells + 1 ≤ R.cells) (hslots : slots + N ≤ R.slots) (c1 : Nat) (hc1 : cells + 1 ≤ c1) (s1 : Nat) (hs1 : slots + N ≤ s1) (hd : decode cc pc = .ok (.new index, 3)) (q : Nat) (hq : pc + 3 = q)
    (k : ∀ a M', gNw M M' a (t, .inr (ci, fs)) → gJ p l e R s m args below meth c G nL Q c1 s1 M' q lv (.ref a :: st)) : gJ p l e R s m args below meth c G nL Q cells slots M pc lv st := by
  subst hq
  intro H locs ls hW hS hl
  obtain ⟨L, h1, h2, h3⟩ := hW
  refine va_new hC.hx hC.hb hC.ts hI.2.1 ty hI.2.2.1 hC.ho (hC.ts _ hlink) (hC.ts _ hins) (hC.ts _ hini) hC.K.1 h1 h2 hS hC.A hI.1 hfs hcells hslots hd (fun a H1 e1 e2 e3 => ?_)
  obtain ⟨f1, f2⟩ := gW.grow t h3 e1 e2
  exact W.widen hc1 hs1 (k a _ (gNw.set f1) H1 locs ls f2 e3 hl)
theorem gTy_u {U : State} {cA cB : ClassId} {ty : FieldType} (h1 : va_RA U cA ty) (h2 : va_RA U cB ty) : cA = cB := by
  cases ty with
  | object C =>
    obtain ⟨_, _, -, -, -, e1⟩ := h1
    obtain ⟨_, _, -, -, -, e2⟩ := h2
    exact Option.some.inj (e1.symm.trans e2)
  | _ => exact Option.some.inj (h1.symm.trans h2)
theorem g_newa (hC : gC p s m args meth c G nL cc own nm ret) {atype : ArrayType} {ty : FieldType} (hty : newarray.typeOf atype = ty) (harr : Cond.arrayClass ty ∈ lw_all) (j : Nat) {cA : ClassId} (hj : (gTy G)[j]? = some (cA, ty)) (hz : defaultValue ty = .int 0) (t : Nat × Nat) {n : Int32} {N : Nat} (hn : ¬ n < 0) (hN : n.toNatClampNeg = N) (hb : N * componentBytes ty ≤ 536870912) (hcells : cells + 1 ≤ R.cells) (hslots : slots + N ≤ R.slots) (c1 : Nat) (hc1 : cells + 1 ≤ c1) (s1 : Nat) (hs1 : slots + N ≤ s1) (hd : decode cc pc = .ok (.newarray atype, 2)) (q : Nat) (hq : pc + 2 = q)
    (k : ∀ a M', gNw M M' a (t, .inl (cA, N, .inl (fun _ => 0))) → gJ p l e R s m args below meth c G nL Q c1 s1 M' q lv (.ref a :: st)) : gJ p l e R s m args below meth c G nL Q cells slots M pc lv (.int n :: st) := by
  subst hq
  intro H locs ls hW hS hl
  obtain ⟨L, h1, h2, h3⟩ := hW
  refine va_newa (a0 := (N, .inl (fun _ => 0))) hC.hx hC.hb (by rw [hty]; exact hC.ts _ harr) hty hC.K.1 h1 h2 hS hC.A (fun cB => by rw [hz]; rfl) hn hN hb hcells hslots hd (fun a cB H1 e0 e1 e2 e3 => ?_)
  have hcB : cB = cA := gTy_u (U := s) ((e0.2 (gTy G).length (cB, ty) (by simp)).2) ((hC.K.1.2 j _ hj).2)
  subst hcB
  obtain ⟨f1, f2⟩ := gW.grow t h3 e1 e2
  exact W.widen hc1 hs1 (k a _ (gNw.set f1) H1 locs ls f2 e3 hl)
theorem g_newq (hC : gC p s m args meth c G nL cc own nm ret) {C : String} {index : Nat} (hlink : Cond.classLink own index C ∈ lw_all) (hover : va_AO C s) (j : Nat) {cA : ClassId} (hj : (gTy G)[j]? = some (cA, .object C)) (t : Nat × Nat) {n : Int32} {N : Nat} (hn : ¬ n < 0) (hN : n.toNatClampNeg = N) (hb : N * 4 ≤ 536870912) (hcells : cells + 1 ≤ R.cells) (hslots : slots + N ≤ R.slots) (c1 : Nat) (hc1 : cells + 1 ≤ c1) (s1 : Nat) (hs1 : slots + N ≤ s1) (hd : decode cc pc = .ok (.anewarray index, 3)) (q : Nat) (hq : pc + 3 = q)
    (k : ∀ a M', gNw M M' a (t, .inl (cA, N, .inr (.inr (.inr (.inr (fun _ => none)))))) → gJ p l e R s m args below meth c G nL Q c1 s1 M' q lv (.ref a :: st)) : gJ p l e R s m args below meth c G nL Q cells slots M pc lv (.int n :: st) := by
  subst hq
  intro H locs ls hW hS hl
  obtain ⟨L, h1, h2, h3⟩ := hW
  refine va_newq hC.hx hC.hb hC.ho (hC.ts _ hlink) hover hC.K.1 h1 h2 hS hC.A hn hN hb hcells hslots hd (fun a cB H1 e0 e1 e2 e3 => ?_)
  have hcB : cB = cA := gTy_u (U := s) ((e0.2 (gTy G).length (cB, .object C) (by simp)).2) ((hC.K.1.2 j _ hj).2)
  subst hcB
  obtain ⟨f1, f2⟩ := gW.grow t h3 e1 e2
  exact W.widen hc1 hs1 (k a _ (gNw.set f1) H1 locs ls f2 e3 hl)
/-! arrays -/
theorem g_iald (hC : gC p s m args meth c G nL cc own nm ret) {a : Nat} {t : Nat × Nat} {cA : ClassId} {n : Nat} {f : Nat → Int32} (ha : M a = some (t, .inl (cA, n, .inl f))) (j : Nat) (hj : (gTy G)[j]? = some (cA, .int)) {i : Int32} (hin : vp_in i n) {v : Int32} (hv : f i.toNatClampNeg = v) (hd : decode cc pc = .ok (.iaload, 1)) (q : Nat) (hq : pc + 1 = q) (k : gJ p l e R s m args below meth c G nL Q cells slots M q lv (.int v :: st)) : gJ p l e R s m args below meth c G nL Q cells slots M pc lv (.int i :: .ref a :: st) := by
  subst hq
  subst hv
  exact fun H locs ls hW hS hl => va_iald hC.hx hC.hb hC.K.1 (hW.one ha) 0 j rfl hj hin hd (k H locs ls hW hS hl)
theorem g_bald (hC : gC p s m args meth c G nL cc own nm ret) {a : Nat} {t : Nat × Nat} {cA : ClassId} {n : Nat} {f : Nat → Int32} (ha : M a = some (t, .inl (cA, n, .inl f))) (j : Nat) (hj : (gTy G)[j]? = some (cA, .byte)) {i : Int32} (hin : vp_in i n) {v : Int32} (hv : f i.toNatClampNeg = v) (hd : decode cc pc = .ok (.baload, 1)) (q : Nat) (hq : pc + 1 = q) (k : gJ p l e R s m args below meth c G nL Q cells slots M q lv (.int v :: st)) : gJ p l e R s m args below meth c G nL Q cells slots M pc lv (.int i :: .ref a :: st) := by
  subst hq
  subst hv
  exact fun H locs ls hW hS hl => va_bald hC.hx hC.hb hC.K.1 (hW.one ha) 0 j rfl hj hin hd (k H locs ls hW hS hl)
theorem g_zald (hC : gC p s m args meth c G nL cc own nm ret) {a : Nat} {t : Nat × Nat} {cA : ClassId} {n : Nat} {f : Nat → Int32} (ha : M a = some (t, .inl (cA, n, .inl f))) (j : Nat) (hj : (gTy G)[j]? = some (cA, .boolean)) {i : Int32} (hin : vp_in i n) {v : Int32} (hv : f i.toNatClampNeg = v) (hd : decode cc pc = .ok (.baload, 1)) (q : Nat) (hq : pc + 1 = q) (k : gJ p l e R s m args below meth c G nL Q cells slots M q lv (.int v :: st)) : gJ p l e R s m args below meth c G nL Q cells slots M pc lv (.int i :: .ref a :: st) := by
  subst hq
  subst hv
  exact fun H locs ls hW hS hl => va_zald hC.hx hC.hb hC.K.1 (hW.one ha) 0 j rfl hj hin hd (k H locs ls hW hS hl)
theorem g_iast (hC : gC p s m args meth c G nL cc own nm ret) {a : Nat} {t : Nat × Nat} {cA : ClassId} {n : Nat} {f : Nat → Int32} (ha : M a = some (t, .inl (cA, n, .inl f))) (j : Nat) (hj : (gTy G)[j]? = some (cA, .int)) {i x : Int32} (hin : vp_in i n) (i9 : Nat) (hi : i.toNatClampNeg = i9) (hd : decode cc pc = .ok (.iastore, 1)) (q : Nat) (hq : pc + 1 = q) (k : ∀ M', gUp M M' a (t, .inl (cA, n, .inl (upd f i9 x))) → gJ p l e R s m args below meth c G nL Q cells slots M' q lv st) : gJ p l e R s m args below meth c G nL Q cells slots M pc lv (.int x :: .int i :: .ref a :: st) := by
  subst hq
  subst hi
  intro H locs ls hW hS hl
  obtain ⟨L, kx, g1, g2, g3, g4⟩ := hW.pick ha
  exact va_iast hC.hx hC.hb hC.K.1 g1 g2 hS kx j g3 hj hin hd (fun H1 locs1 e1 e2 e3 => k _ gUp.set H1 locs1 ls (g4 _ _ e1 e2) e3 hl)
theorem g_bast (hC : gC p s m args meth c G nL cc own nm ret) {a : Nat} {t : Nat × Nat} {cA : ClassId} {n : Nat} {f : Nat → Int32} (ha : M a = some (t, .inl (cA, n, .inl f))) (j : Nat) (hj : (gTy G)[j]? = some (cA, .byte)) {i x : Int32} (hin : vp_in i n) (i9 : Nat) (hi : i.toNatClampNeg = i9) (hd : decode cc pc = .ok (.bastore, 1)) (q : Nat) (hq : pc + 1 = q) (k : ∀ M', gUp M M' a (t, .inl (cA, n, .inl (upd f i9 (vp_nar .byte x)))) → gJ p l e R s m args below meth c G nL Q cells slots M' q lv st) : gJ p l e R s m args below meth c G nL Q cells slots M pc lv (.int x :: .int i :: .ref a :: st) := by
  subst hq
  subst hi
  intro H locs ls hW hS hl
  obtain ⟨L, kx, g1, g2, g3, g4⟩ := hW.pick ha
  exact va_bast hC.hx hC.hb hC.K.1 g1 g2 hS kx j g3 hj hin hd (fun H1 locs1 e1 e2 e3 => k _ gUp.set H1 locs1 ls (g4 _ _ e1 e2) e3 hl)
theorem g_zast (hC : gC p s m args meth c G nL cc own nm ret) {a : Nat} {t : Nat × Nat} {cA : ClassId} {n : Nat} {f : Nat → Int32} (ha : M a = some (t, .inl (cA, n, .inl f))) (j : Nat) (hj : (gTy G)[j]? = some (cA, .boolean)) {i x : Int32} (hin : vp_in i n) (i9 : Nat) (hi : i.toNatClampNeg = i9) (hd : decode cc pc = .ok (.bastore, 1)) (q : Nat) (hq : pc + 1 = q) (k : ∀ M', gUp M M' a (t, .inl (cA, n, .inl (upd f i9 (vp_nar .boolean x)))) → gJ p l e R s m args below meth c G nL Q cells slots M' q lv st) : gJ p l e R s m args below meth c G nL Q cells slots M pc lv (.int x :: .int i :: .ref a :: st) := by
  subst hq
  subst hi
  intro H locs ls hW hS hl
  obtain ⟨L, kx, g1, g2, g3, g4⟩ := hW.pick ha
  exact va_zast hC.hx hC.hb hC.K.1 g1 g2 hS kx j g3 hj hin hd (fun H1 locs1 e1 e2 e3 => k _ gUp.set H1 locs1 ls (g4 _ _ e1 e2) e3 hl)
theorem g_aldq (hC : gC p s m args meth c G nL cc own nm ret) {a : Nat} {t : Nat × Nat} {cA : ClassId} {n : Nat} {f : Nat → Option Nat} (ha : M a = some (t, .inl (cA, n, .inr (.inr (.inr (.inr f)))))) (j : Nat) {E : String} (hj : (gTy G)[j]? = some (cA, .object E)) {i : Int32} (hin : vp_in i n) {r : Option Nat} (hv : f i.toNatClampNeg = r) (hd : decode cc pc = .ok (.aaload, 1)) (q : Nat) (hq : pc + 1 = q) (k : gJ p l e R s m args below meth c G nL Q cells slots M q lv (va_rf r :: st)) : gJ p l e R s m args below meth c G nL Q cells slots M pc lv (.int i :: .ref a :: st) := by
  subst hq
  subst hv
  exact fun H locs ls hW hS hl => va_aldq hC.hx hC.hb hC.K.1 (hW.one ha) 0 j rfl hj hin hd (k H locs ls hW hS hl)
theorem g_astqN (hC : gC p s m args meth c G nL cc own nm ret) {a : Nat} {t : Nat × Nat} {cA : ClassId} {n : Nat} {f : Nat → Option Nat} (ha : M a = some (t, .inl (cA, n, .inr (.inr (.inr (.inr f)))))) (j : Nat) {E : String} (hj : (gTy G)[j]? = some (cA, .object E)) {i : Int32} (hin : vp_in i n) (i9 : Nat) (hi : i.toNatClampNeg = i9) (hd : decode cc pc = .ok (.aastore, 1)) (q : Nat) (hq : pc + 1 = q) (k : ∀ M', gUp M M' a (t, .inl (cA, n, .inr (.inr (.inr (.inr (va_up f i9 none)))))) → gJ p l e R s m args below meth c G nL Q cells slots M' q lv st) : gJ p l e R s m args below meth c G nL Q cells slots M pc lv (.null :: .int i :: .ref a :: st) := by
  subst hq
  subst hi
  intro H locs ls hW hS hl
  obtain ⟨L, kx, g1, g2, g3, g4⟩ := hW.pick ha
  exact va_astqN hC.hx hC.hb hC.K.1 g1 g2 hS kx j g3 hj hin hd (fun H1 locs1 e1 e2 e3 => k _ gUp.set H1 locs1 ls (g4 _ _ e1 e2) e3 hl)
/-- the object at v is of class C, by the world or by the constants -/
def gIs (s : State) (H : Heap) (C : String) (v : Nat) : Prop := ∃ cell : Cell, H[v]? = some cell ∧ cell.vm.isStatics = false ∧ s.vm.findClass C = some cell.cls
theorem gIs.of {G : gG} {s : State} {M : gM} {H : Heap} (hK : gK G s) (hW : gW G M H) {v ci : Nat} {t : Nat × Nat} {fs : List Value} {C : String} {T : u_T} {N : Nat} (hv : M v = some (t, .inr (ci, fs))) (hc : gCl[ci]? = some (C, T, N)) : gIs s H C v := va_recv (q0 := 0) hK.1 (hW.one hv) hc rfl
theorem gIs.ph {G : gG} {s : State} {H : Heap} {locs : List Loc} (hK : gK G s) (hS : va_S (gA G) s.heap H locs) {i : Nat} (hi : i < 10) : gIs s H (gPhC i) (gph G i) := by
  obtain ⟨cell, h1, h2, h3, -⟩ := (hK.2.1 i hi).2.1.kept hS.2.1
  exact ⟨cell, h1, h2, h3⟩
theorem gIs.bx {G : gG} {s : State} {H : Heap} {locs : List Loc} (hK : gK G s) (hS : va_S (gA G) s.heap H locs) {i : Nat} (hi : i < 256) : gIs s H "java/lang/Integer" (gbx G i) := by
  obtain ⟨cell, h1, h2, h3, -⟩ := (hK.2.2.2.1.1.1 i hi).kept hS.2.1
  exact ⟨cell, h1, h2, h3⟩
/-- an Integer that holds x: one of the world, or a cached one -/
def gBox (G : gG) (M : gM) (a : Nat) (x : Int32) : Prop := (∃ t, M a = some (t, .inr (28, [.int x])) ∧ t.1 = 0) ∨ ∃ k : Nat, k < 256 ∧ a = gbx G k ∧ x = vb_c k
theorem gIs.box {G : gG} {s : State} {M : gM} {H : Heap} {locs : List Loc} (hK : gK G s) (hW : gW G M H) (hS : va_S (gA G) s.heap H locs) {a : Nat} {x : Int32} (h : gBox G M a x) : gIs s H "java/lang/Integer" a := by
  rcases h with ⟨t, h, -⟩ | ⟨k, hk, rfl, -⟩
  · exact gIs.of (T := TJ11) (N := 1) hK hW h rfl
  · exact gIs.bx hK hS hk
/-- of class C in every heap that holds M -/
def gOf (G : gG) (s : State) (M : gM) (C : String) (v : Nat) : Prop := ∀ (H : Heap) (locs : List Loc), gW G M H → va_S (gA G) s.heap H locs → gIs s H C v
theorem gOf.of {G : gG} {s : State} {M : gM} (hK : gK G s) {v ci : Nat} {t : Nat × Nat} {fs : List Value} {C : String} {T : u_T} {ty : Nat → FieldType} {N : Nat} (hI : gCI ci C T ty N) (hv : M v = some (t, .inr (ci, fs))) : gOf G s M C v := fun _ _ hW _ => gIs.of hK hW hv hI.1
theorem gOf.ph {G : gG} {s : State} {M : gM} (hK : gK G s) {i : Nat} (hi : i < 10) : gOf G s M (gPhC i) (gph G i) := fun _ _ _ hS => gIs.ph hK hS hi
theorem gOf.box {G : gG} {s : State} {M : gM} (hK : gK G s) {a : Nat} {x : Int32} (h : gBox G M a x) : gOf G s M "java/lang/Integer" a := fun _ _ hW hS => gIs.box hK hW hS h
theorem g_astq (hC : gC p s m args meth c G nL cc own nm ret) {a : Nat} {t : Nat × Nat} {cA : ClassId} {n : Nat} {f : Nat → Option Nat} (ha : M a = some (t, .inl (cA, n, .inr (.inr (.inr (.inr f)))))) (j : Nat) {E : String} (hj : (gTy G)[j]? = some (cA, .object E)) {CV : String} {v : Nat} (hv : gOf G s M CV v) (hc : CV = E ∨ Cond.castable CV E ∈ lw_tbl) {i : Int32} (hin : vp_in i n) (i9 : Nat) (hi : i.toNatClampNeg = i9) (hd : decode cc pc = .ok (.aastore, 1)) (q : Nat) (hq : pc + 1 = q) (k : ∀ M', gUp M M' a (t, .inl (cA, n, .inr (.inr (.inr (.inr (va_up f i9 (some v))))))) → gJ p l e R s m args below meth c G nL Q cells slots M' q lv st) : gJ p l e R s m args below meth c G nL Q cells slots M pc lv (.ref v :: .int i :: .ref a :: st) := by
  subst hq
  subst hi
  intro H locs ls hW hS hl
  obtain ⟨L, kx, g1, g2, g3, g4⟩ := hW.pick ha
  refine vb_astq (C := CV) hC.hx hC.hb hC.K.1 g1 g2 hS kx j g3 hj (hv H locs hW hS) ?_ hin hd (fun H1 locs1 e1 e2 e3 => k _ gUp.set H1 locs1 ls (g4 _ _ e1 e2) e3 hl)
  rcases hc with rfl | hc
  · exact vb_asgS
  · exact vb_asgC (hC.K.2.2.2.2.1 _ hc rfl)
theorem g_alen (hC : gC p s m args meth c G nL cc own nm ret) {a : Nat} {t : Nat × Nat} {cA : ClassId} {x : vp_A} (ha : M a = some (t, .inl (cA, x))) (j : Nat) {ty : FieldType} (hj : (gTy G)[j]? = some (cA, ty)) {v : Int32} (hv : Int32.ofNat x.1 = v) (hd : decode cc pc = .ok (.arraylength, 1)) (q : Nat) (hq : pc + 1 = q) (k : gJ p l e R s m args below meth c G nL Q cells slots M q lv (.int v :: st)) : gJ p l e R s m args below meth c G nL Q cells slots M pc lv (.ref a :: st) := by
  subst hq
  exact fun H locs ls hW hS hl => va_alen hC.hx hC.hb hC.K.1 (hW.one ha) 0 j rfl hj hv hd (k H locs ls hW hS hl)
/-! statics, casts -/
theorem g_phase (hC : gC p s m args meth c G nL cc own nm ret) (i : Nat) (hi : i < 10) {n : String} (hn : gPhN i = n) {index : Nat} (hlink : Cond.fieldLink own index "ArbitratedBus$Phase" n "LArbitratedBus$Phase;" ∈ lw_all) (hd : decode cc pc = .ok (.getstatic index, 3)) (q : Nat) (hq : pc + 3 = q) (k : gJ p l e R s m args below meth c G nL Q cells slots M q lv (.ref (gph G i) :: st)) : gJ p l e R s m args below meth c G nL Q cells slots M pc lv st := by
  subst hq
  subst hn
  exact fun H locs ls hW hS hl => va_gets hC.hx hC.hb (hC.K.2.1 i hi).1 hS hC.ho (hC.ts _ hlink) (fun _ h => h) hd (k H locs ls hW hS hl)
theorem g_gets (hC : gC p s m args meth c G nL cc own nm ret) {X n d : String} {v : Value} (hZ : va_Z X n d v (gA G) s s.heap) {index : Nat} (hlink : Cond.fieldLink own index X n d ∈ lw_all) (hd : decode cc pc = .ok (.getstatic index, 3)) (q : Nat) (hq : pc + 3 = q) (k : gJ p l e R s m args below meth c G nL Q cells slots M q lv (v :: st)) : gJ p l e R s m args below meth c G nL Q cells slots M pc lv st := by
  subst hq
  exact fun H locs ls hW hS hl => va_gets hC.hx hC.hb hZ hS hC.ho (hC.ts _ hlink) (fun _ h => h) hd (k H locs ls hW hS hl)
theorem g_cast (hC : gC p s m args meth c G nL cc own nm ret) {X Y : String} {a : Nat} (hv : gOf G s M X a) (hc : Cond.castable X Y ∈ lw_tbl) {index : Nat} (hlink : Cond.classLink own index Y ∈ lw_all) (hd : decode cc pc = .ok (.checkcast index, 3)) (q : Nat) (hq : pc + 3 = q) (k : gJ p l e R s m args below meth c G nL Q cells slots M q lv (.ref a :: st)) : gJ p l e R s m args below meth c G nL Q cells slots M pc lv (.ref a :: st) := by
  subst hq
  exact fun H locs ls hW hS hl => va_castY hC.hx hC.hb hC.ho (hC.ts _ hlink) (hC.K.2.2.2.2.1 _ hc rfl) (hv H locs hW hS) hd (k H locs ls hW hS hl)
theorem g_castS (hC : gC p s m args meth c G nL cc own nm ret) {X : String} {a : Nat} {cC : ClassId} (hat : ClassAt s X cC) (hv : gOf G s M X a) {index : Nat} (hlink : Cond.classLink own index X ∈ lw_all) (hd : decode cc pc = .ok (.checkcast index, 3)) (q : Nat) (hq : pc + 3 = q) (k : gJ p l e R s m args below meth c G nL Q cells slots M q lv (.ref a :: st)) : gJ p l e R s m args below meth c G nL Q cells slots M pc lv (.ref a :: st) := by
  subst hq
  intro H locs ls hW hS hl
  obtain ⟨cell, h1, h2, h3⟩ := hv H locs hW hS
  exact va_castS hC.hx hC.hb hC.ho (hC.ts _ hlink) hat ⟨cell, h1, h2, h3⟩ hd (k H locs ls hW hS hl)
theorem g_castN (hC : gC p s m args meth c G nL cc own nm ret) {index : Nat} (hd : decode cc pc = .ok (.checkcast index, 3)) (q : Nat) (hq : pc + 3 = q) (k : gJ p l e R s m args below meth c G nL Q cells slots M q lv (.null :: st)) : gJ p l e R s m args below meth c G nL Q cells slots M pc lv (.null :: st) := by
  subst hq
  exact fun H locs ls hW hS hl => lv_castN hC.hx hC.hb hd (k H locs ls hW hS hl)
theorem g_ldc2 (hC : gC p s m args meth c G nL cc own nm ret) {index : Nat} {v : Int64} (hlink : Cond.constantLong own index v ∈ lw_all) (hd : decode cc pc = .ok (.ldc2_w index, 3)) (q : Nat) (hq : pc + 3 = q) (k : gJ p l e R s m args below meth c G nL Q cells slots M q lv (.long v :: st)) : gJ p l e R s m args below meth c G nL Q cells slots M pc lv st := by
  subst hq
  exact fun H locs ls hW hS hl => lv_ldc2 hC.hx hC.hb hC.ho (hC.ts _ hlink) hd (k H locs ls hW hS hl)
theorem g_ldc (hC : gC p s m args meth c G nL cc own nm ret) {index : Nat} {v : Int32} (hlink : Cond.constant own index v ∈ lw_all) (hd : decode cc pc = .ok (.ldc index, 2)) (q : Nat) (hq : pc + 2 = q) (k : gJ p l e R s m args below meth c G nL Q cells slots M q lv (.int v :: st)) : gJ p l e R s m args below meth c G nL Q cells slots M pc lv st := by
  subst hq
  exact fun H locs ls hW hS hl => lv_ldc hC.hx hC.hb hC.ho (hC.ts _ hlink) hd (k H locs ls hW hS hl)
theorem g_objInit (hC : gC p s m args meth c G nL cc own nm ret) {index : Nat} (hlink : Cond.methodLink own index Lib.objectInit ∈ lw_all) (hinst : Cond.instanceMethod Lib.objectInit ∈ lw_all) (hcode : Cond.code Lib.objectInit ⟨#[0xb1]⟩ 1 none ∈ lw_all) {a : Nat} (hd : decode cc pc = .ok (.invokespecial index, 3)) (hfr : 1 ≤ R.frames) (hlo : (st.map fun v => v.category).sum + 12 ≤ R.locals) (q : Nat) (hq : pc + 3 = q) (k : gJ p l e R s m args below meth c G nL Q cells slots M q lv st) : gJ p l e R s m args below meth c G nL Q cells slots M pc lv (.ref a :: st) := by
  subst hq
  intro H locs ls hW hS hl
  refine W.objInit hC.hx hC.hb hC.ho (hC.ts _ hlink) (hC.ts _ hinst) (hC.ts _ hcode) rfl (by rw [hC.hml]; exact hl.1) rfl hd hfr ?_ (k H locs ls hW hS hl)
  have e0 : (F0 m pc ls (.ref a :: st)).monitorRoom = 0 := rfl
  rw [e0]
  omega
theorem g_topi {x y : Int32} (h : x = y) (k : gJ p l e R s m args below meth c G nL Q cells slots M pc lv (.int y :: st)) : gJ p l e R s m args below meth c G nL Q cells slots M pc lv (.int x :: st) := by subst h; exact k
theorem g_topl {x y : Int64} (h : x = y) (k : gJ p l e R s m args below meth c G nL Q cells slots M pc lv (.long y :: st)) : gJ p l e R s m args below meth c G nL Q cells slots M pc lv (.long x :: st) := by subst h; exact k
theorem g_topv {x y : Value} (h : x = y) (k : gJ p l e R s m args below meth c G nL Q cells slots M pc lv (y :: st)) : gJ p l e R s m args below meth c G nL Q cells slots M pc lv (x :: st) := by subst h; exact k
/-- a diamond: two ways to one place, with one value on the stack -/
theorem g_topn {x : Int32} (k : ∀ y : Int32, y = x → gJ p l e R s m args below meth c G nL Q cells slots M pc lv (.int y :: st)) : gJ p l e R s m args below meth c G nL Q cells slots M pc lv (.int x :: st) := k x rfl
/-! returns -/
theorem g_iret (hC : gC p s m args meth c G nL cc own nm (some .int)) {mc ms : Nat} {v : Int32} {post : Int32 → gM → Nat → Prop} (hp : ∀ k, k ≤ cells → post v M k) (hd : decode cc pc = .ok (.ireturn, 1)) (h1 : cells ≤ mc) (h2 : slots ≤ ms) : gJ p l e R s m args below meth c G nL (MQ below (gQi G post) args s mc ms (gA G)) cells slots M pc lv [.int v] := by
  intro H locs ls hW hS hl T hT X
  have hz := X.heapSize
  rw [hT] at hz
  have hsz : H.size = s.heap.size + (H.size - s.heap.size) := by have := hS.1; omega
  exact W.widen h1 h2 (W.iret hC.hx hC.hb hC.rt (fun t ht hWm => ⟨⟨v, M, H.size - s.heap.size, rfl, hp _ (by omega), by rw [ht]; exact hW, by rw [ht]; exact hsz⟩, hS.F ht⟩) hS.2.2 hd hC.lk) T hT X
theorem g_zret {ty : FieldType} (hC : gC p s m args meth c G nL cc own nm (some ty)) {mc ms : Nat} {v : Int32} {post : Int32 → gM → Nat → Prop} (hn : narrow ty (.int v) = .int v) (hp : ∀ k, k ≤ cells → post v M k) (hd : decode cc pc = .ok (.ireturn, 1)) (h1 : cells ≤ mc) (h2 : slots ≤ ms) : gJ p l e R s m args below meth c G nL (MQ below (gQi G post) args s mc ms (gA G)) cells slots M pc lv [.int v] := by
  intro H locs ls hW hS hl T hT X
  have hz := X.heapSize
  rw [hT] at hz
  have hsz : H.size = s.heap.size + (H.size - s.heap.size) := by have := hS.1; omega
  exact W.widen h1 h2 (W.zret hC.hx hC.hb hC.rt hn (fun t ht hWm => ⟨⟨v, M, H.size - s.heap.size, rfl, hp _ (by omega), by rw [ht]; exact hW, by rw [ht]; exact hsz⟩, hS.F ht⟩) hS.2.2 hd hC.lk) T hT X
theorem g_lret (hC : gC p s m args meth c G nL cc own nm (some .long)) {mc ms : Nat} {v : Int64} {post : Int64 → gM → Nat → Prop} (hp : ∀ k, k ≤ cells → post v M k) (hd : decode cc pc = .ok (.lreturn, 1)) (h1 : cells ≤ mc) (h2 : slots ≤ ms) : gJ p l e R s m args below meth c G nL (MQ below (gQl G post) args s mc ms (gA G)) cells slots M pc lv [.long v] := by
  intro H locs ls hW hS hl T hT X
  have hz := X.heapSize
  rw [hT] at hz
  have hsz : H.size = s.heap.size + (H.size - s.heap.size) := by have := hS.1; omega
  exact W.widen h1 h2 (W.lret hC.hx hC.hb hC.rt (fun t ht hWm => ⟨⟨v, M, H.size - s.heap.size, rfl, hp _ (by omega), by rw [ht]; exact hW, by rw [ht]; exact hsz⟩, hS.F ht⟩) hS.2.2 hd hC.lk) T hT X
theorem g_vret (hC : gC p s m args meth c G nL cc own nm (none)) {mc ms : Nat} {post : gM → Nat → Prop} (hp : ∀ k, k ≤ cells → post M k) (hd : decode cc pc = .ok (.return_, 1)) (h1 : cells ≤ mc) (h2 : slots ≤ ms) : gJ p l e R s m args below meth c G nL (MQ below (gQv G post) args s mc ms (gA G)) cells slots M pc lv [] := by
  intro H locs ls hW hS hl T hT X
  have hz := X.heapSize
  rw [hT] at hz
  have hsz : H.size = s.heap.size + (H.size - s.heap.size) := by have := hS.1; omega
  exact W.widen h1 h2 (W.vret hC.hx hC.hb hC.rt (fun t ht hWm => ⟨⟨M, H.size - s.heap.size, rfl, hp _ (by omega), by rw [ht]; exact hW, by rw [ht]; exact hsz⟩, hS.F ht⟩) hS.2.2 hd hC.lk) T hT X
theorem g_aret {ty : FieldType} (hC : gC p s m args meth c G nL cc own nm (some ty)) {mc ms : Nat} {v : Option Nat} {post : Option Nat → gM → Nat → Prop} (hty : (∃ n, ty = .object n) ∨ ∃ t, ty = .array t) (hp : ∀ k, k ≤ cells → post v M k) (hd : decode cc pc = .ok (.areturn, 1)) (h1 : cells ≤ mc) (h2 : slots ≤ ms) : gJ p l e R s m args below meth c G nL (MQ below (gQq G post) args s mc ms (gA G)) cells slots M pc lv [va_rf v] := by
  intro H locs ls hW hS hl T hT X
  have hz := X.heapSize
  rw [hT] at hz
  have hsz : H.size = s.heap.size + (H.size - s.heap.size) := by have := hS.1; omega
  exact W.widen h1 h2 (W.aret hC.hx hC.hb hC.rt hty gRef_q (fun t ht hWm => ⟨⟨v, M, H.size - s.heap.size, rfl, hp _ (by omega), by rw [ht]; exact hW, by rw [ht]; exact hsz⟩, hS.F ht⟩) hS.2.2 hd hC.lk) T hT X
end GJ
