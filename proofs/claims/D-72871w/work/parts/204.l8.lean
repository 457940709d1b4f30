/-! the law's start: what holds all through a run -/
set_option maxRecDepth 100000
set_option maxHeartbeats 4000000 in
theorem start_cls {s : State} {b : Addr} (hts : ∀ w ∈ lw_tbl, w.before #[Value.ref b] s = true) : ∃ (dC : Nat → ClassId) (dI : Nat → Nat → Nat), ∀ (k : Nat) (q : vw_C), gCl[k]? = some q → u_Kn s q.1 q.2.1 q.2.2 (dC k) (dI k) := by
  obtain ⟨c0, i0, h0⟩ := u_known (C := RX0) (T := TX0) (N := 5) (n := 5) hts (fun w h => lw_all_tbl (in_X0 w h)) (hts _ (lw_all_tbl q171))
  obtain ⟨c1, i1, h1⟩ := u_known (C := RX1) (T := TX1) (N := 7) (n := 7) hts (fun w h => lw_all_tbl (in_X1 w h)) (hts _ (lw_all_tbl q179))
  obtain ⟨c2, i2, h2⟩ := u_known (C := RX2) (T := TX2) (N := 24) (n := 24) hts (fun w h => lw_all_tbl (in_X2 w h)) (hts _ (lw_all_tbl q222))
  obtain ⟨c3, i3, h3⟩ := u_known (C := RX4) (T := TX4) (N := 2) (n := 2) hts (fun w h => lw_all_tbl (in_X4 w h)) (hts _ (lw_all_tbl q2141))
  obtain ⟨c4, i4, h4⟩ := u_known (C := RX5) (T := TX5) (N := 10) (n := 10) hts (fun w h => lw_all_tbl (in_X5 w h)) (hts _ (lw_all_tbl q230))
  obtain ⟨c5, i5, h5⟩ := u_known (C := RX6) (T := TX6) (N := 0) (n := 0) hts (fun w h => lw_all_tbl (in_X6 w h)) (hts _ (lw_all_tbl q329))
  obtain ⟨c6, i6, h6⟩ := u_known (C := RX7) (T := TX7) (N := 1) (n := 1) hts (fun w h => lw_all_tbl (in_X7 w h)) (hts _ (lw_all_tbl q503))
  obtain ⟨c7, i7, h7⟩ := u_known (C := RX8) (T := TX8) (N := 11) (n := 11) hts (fun w h => lw_all_tbl (in_X8 w h)) (hts _ (lw_all_tbl q2934))
  obtain ⟨c8, i8, h8⟩ := u_known (C := RX9) (T := TX9) (N := 5) (n := 5) hts (fun w h => lw_all_tbl (in_X9 w h)) (hts _ (lw_all_tbl q1147))
  obtain ⟨c9, i9, h9⟩ := u_known (C := RX10) (T := TX10) (N := 2) (n := 2) hts (fun w h => lw_all_tbl (in_X10 w h)) (hts _ (lw_all_tbl q986))
  obtain ⟨c10, i10, h10⟩ := u_known (C := RX11) (T := TX11) (N := 2) (n := 2) hts (fun w h => lw_all_tbl (in_X11 w h)) (hts _ (lw_all_tbl q1759))
  obtain ⟨c11, i11, h11⟩ := u_known (C := RX15) (T := TX15) (N := 1) (n := 1) hts (fun w h => lw_all_tbl (in_X15 w h)) (hts _ (lw_all_tbl q2564))
  obtain ⟨c12, i12, h12⟩ := u_known (C := RX16) (T := TX16) (N := 4) (n := 4) hts (fun w h => lw_all_tbl (in_X16 w h)) (hts _ (lw_all_tbl q1272))
  obtain ⟨c13, i13, h13⟩ := u_known (C := RX17) (T := TX17) (N := 3) (n := 3) hts (fun w h => lw_all_tbl (in_X17 w h)) (hts _ (lw_all_tbl q2630))
  obtain ⟨c14, i14, h14⟩ := u_known (C := RX18) (T := TX18) (N := 2) (n := 2) hts (fun w h => lw_all_tbl (in_X18 w h)) (hts _ (lw_all_tbl q2728))
  obtain ⟨c15, i15, h15⟩ := u_known (C := RX19) (T := TX19) (N := 7) (n := 7) hts (fun w h => lw_all_tbl (in_X19 w h)) (hts _ (lw_all_tbl q2781))
  obtain ⟨c16, i16, h16⟩ := u_known (C := RX20) (T := TX20) (N := 5) (n := 5) hts (fun w h => lw_all_tbl (in_X20 w h)) (hts _ (lw_all_tbl q2824))
  obtain ⟨c17, i17, h17⟩ := u_known (C := RJ3) (T := TJ3) (N := 4) (n := 4) hts (fun w h => lw_all_tbl (in_J3 w h)) (hts _ (lw_all_tbl q187))
  obtain ⟨c18, i18, h18⟩ := u_known (C := RJ30) (T := TJ30) (N := 3) (n := 3) hts (fun w h => lw_all_tbl (in_J30 w h)) (hts _ (lw_all_tbl q1782))
  obtain ⟨c19, i19, h19⟩ := u_known (C := RJ34) (T := TJ34) (N := 5) (n := 5) hts (fun w h => lw_all_tbl (in_J34 w h)) (hts _ (lw_all_tbl q1937))
  obtain ⟨c20, i20, h20⟩ := u_known (C := RJ6) (T := TJ6) (N := 4) (n := 4) hts (fun w h => lw_all_tbl (in_J6 w h)) (hts _ (lw_all_tbl q277))
  obtain ⟨c21, i21, h21⟩ := u_known (C := RJ23) (T := TJ23) (N := 6) (n := 6) hts (fun w h => lw_all_tbl (in_J23 w h)) (hts _ (lw_all_tbl q1235))
  obtain ⟨c22, i22, h22⟩ := u_known (C := RJ7) (T := TJ7) (N := 3) (n := 3) hts (fun w h => lw_all_tbl (in_J7 w h)) (hts _ (lw_all_tbl q307))
  obtain ⟨c23, i23, h23⟩ := u_known (C := RJ37) (T := TJ37) (N := 4) (n := 4) hts (fun w h => lw_all_tbl (in_J37 w h)) (hts _ (lw_all_tbl q2411))
  obtain ⟨c24, i24, h24⟩ := u_known (C := RJ9) (T := TJ9) (N := 9) (n := 9) hts (fun w h => lw_all_tbl (in_J9 w h)) (hts _ (lw_all_tbl q327))
  obtain ⟨c25, i25, h25⟩ := u_known (C := RJ21) (T := TJ21) (N := 6) (n := 6) hts (fun w h => lw_all_tbl (in_J21 w h)) (hts _ (lw_all_tbl q1017))
  obtain ⟨c26, i26, h26⟩ := u_known (C := RJ39) (T := TJ39) (N := 1) (n := 1) hts (fun w h => lw_all_tbl (in_J39 w h)) (hts _ (lw_all_tbl q2486))
  obtain ⟨c27, i27, h27⟩ := u_known (C := RJ41) (T := TJ41) (N := 4) (n := 4) hts (fun w h => lw_all_tbl (in_J41 w h)) (hts _ (lw_all_tbl q2514))
  obtain ⟨c28, i28, h28⟩ := u_known (C := RJ11) (T := TJ11) (N := 1) (n := 1) hts (fun w h => lw_all_tbl (in_J11 w h)) (hts _ (lw_all_tbl q578))
  obtain ⟨c29, i29, h29⟩ := u_known (C := RJ42) (T := TJ42) (N := 3) (n := 3) hts (fun w h => lw_all_tbl (in_J42 w h)) (hts _ (lw_all_tbl q1896))
  obtain ⟨c30, i30, h30⟩ := u_known (C := RJ32) (T := TJ32) (N := 4) (n := 4) hts (fun w h => lw_all_tbl (in_J32 w h)) (hts _ (lw_all_tbl q2884))
  refine ⟨fun k => ([c0, c1, c2, c3, c4, c5, c6, c7, c8, c9, c10, c11, c12, c13, c14, c15, c16, c17, c18, c19, c20, c21, c22, c23, c24, c25, c26, c27, c28, c29, c30] : List ClassId).getD k c0, fun k => ([i0, i1, i2, i3, i4, i5, i6, i7, i8, i9, i10, i11, i12, i13, i14, i15, i16, i17, i18, i19, i20, i21, i22, i23, i24, i25, i26, i27, i28, i29, i30] : List (Nat → Nat)).getD k i0, ?_⟩
  intro k q hq
  match k, hq with
  | 0, hq => cases hq; exact h0
  | 1, hq => cases hq; exact h1
  | 2, hq => cases hq; exact h2
  | 3, hq => cases hq; exact h3
  | 4, hq => cases hq; exact h4
  | 5, hq => cases hq; exact h5
  | 6, hq => cases hq; exact h6
  | 7, hq => cases hq; exact h7
  | 8, hq => cases hq; exact h8
  | 9, hq => cases hq; exact h9
  | 10, hq => cases hq; exact h10
  | 11, hq => cases hq; exact h11
  | 12, hq => cases hq; exact h12
  | 13, hq => cases hq; exact h13
  | 14, hq => cases hq; exact h14
  | 15, hq => cases hq; exact h15
  | 16, hq => cases hq; exact h16
  | 17, hq => cases hq; exact h17
  | 18, hq => cases hq; exact h18
  | 19, hq => cases hq; exact h19
  | 20, hq => cases hq; exact h20
  | 21, hq => cases hq; exact h21
  | 22, hq => cases hq; exact h22
  | 23, hq => cases hq; exact h23
  | 24, hq => cases hq; exact h24
  | 25, hq => cases hq; exact h25
  | 26, hq => cases hq; exact h26
  | 27, hq => cases hq; exact h27
  | 28, hq => cases hq; exact h28
  | 29, hq => cases hq; exact h29
  | 30, hq => cases hq; exact h30
  | k + 31, hq => simp [gCl] at hq
theorem arr_p {args : Array Value} {s : State} {ty : FieldType} (h : (Cond.arrayClass ty).before args s = true) (hn : ∀ C, ty ≠ .object C) : ∃ cA, ArrOfT s cA ty ∧ va_RA s cA ty := by
  obtain ⟨c, k, comp, h1, h2, h3⟩ := Cond.arrayClass_spec (first := s) (o := none) (idx := []) h
  refine ⟨c, fun n z => ⟨fun k9 h9 => by cases h9, k, h2, comp, h3⟩, ?_⟩
  cases ty <;> first | exact h1 | exact absurd rfl (hn _)
theorem arr_o {args : Array Value} {s : State} {C : String} (h : (Cond.arrayOver (.object C)).before args s = true) : ∃ cA, ArrOfT s cA (.object C) ∧ va_RA s cA (.object C) := by
  obtain ⟨comp, c, k, h1, h2, h3, h4, h5⟩ := Cond.arrayOver_spec (first := s) (o := none) (idx := []) h
  exact ⟨c, fun n z => ⟨fun k9 h9 => by cases h9, k, h3, comp, h4⟩, k, comp, h3, h4, h1, h5⟩
theorem start_arr {s : State} {b : Addr} (hts : ∀ w ∈ lw_tbl, w.before #[Value.ref b] s = true) : ∃ cs : Nat → ClassId, ∀ (k : Nat) (q : ClassId × FieldType), ([(cs 0, .int), (cs 1, .byte), (cs 2, .boolean), (cs 3, .object "java/lang/Object"), (cs 4, .object "ArbitratedBus$Node"), (cs 5, .object "ArbitratedBus$Bus")] : List (ClassId × FieldType))[k]? = some q → ArrOfT s q.1 q.2 ∧ va_RA s q.1 q.2 := by
  obtain ⟨c0, h0⟩ := arr_p (hts _ (lw_all_tbl q468)) (fun C h => by cases h)
  obtain ⟨c1, h1⟩ := arr_p (hts _ (lw_all_tbl q275)) (fun C h => by cases h)
  obtain ⟨c2, h2⟩ := arr_p (hts _ (lw_all_tbl q2976)) (fun C h => by cases h)
  obtain ⟨c3, h3⟩ := arr_o (hts _ q289)
  obtain ⟨c4, h4⟩ := arr_o (hts _ q185)
  obtain ⟨c5, h5⟩ := arr_o (hts _ q501)
  refine ⟨fun k => ([c0, c1, c2, c3, c4, c5] : List ClassId).getD k c0, ?_⟩
  intro k q hq
  match k, hq with
  | 0, hq => cases hq; exact h0
  | 1, hq => cases hq; exact h1
  | 2, hq => cases hq; exact h2
  | 3, hq => cases hq; exact h3
  | 4, hq => cases hq; exact h4
  | 5, hq => cases hq; exact h5
  | k + 6, hq => simp at hq
theorem va_OFo {args : Array Value} {s : State} {t : Term} {a : Nat} {o n d : String} {v : Int32} {A : Nat → Prop} (ht : t.eval args s none [] s = some (.ref a)) (hf : (Cond.eq (.field t o n d) (.int v)).before args s = true) (hA : ∀ a : Nat, a < s.heap.size → ¬ A a) : va_OF o n d (.int v) a A s s.heap := by
  have hv := va_eqt hf
  cases hfo : s.fieldFound? o n d with
  | none =>
    rw [va_fe ht] at hv
    simp [State.fieldOf?, State.fieldNamed?, hfo] at hv
  | some x =>
    obtain ⟨cf, k, fi, f⟩ := x
    obtain ⟨g1, cell, g2, g3, -, -, g6⟩ := Term.field_spec hfo ht hv
    exact ⟨cf, k, fi, f, cell, hfo, g1, g2, g3, g6, hA _ (Array.getElem?_eq_some_iff.mp g2).1⟩
theorem ph_1 {args : Array Value} {s : State} {C n d E : String} {v : Int32} {A : Nat → Prop} (hl : (Cond.laysStatic C n d).before args s = true) (hini : (Cond.initialized C).before args s = true) (hex : (Cond.exactly (.static C n d) E).before args s = true) (hf : (Cond.eq (.field (.static C n d) "java/lang/Enum" "ordinal" "I") (.int v)).before args s = true) (hA : ∀ a : Nat, a < s.heap.size → ¬ A a) : ∃ t : Nat, va_Z C n d (.ref t) A s s.heap ∧ va_O E t A s s.heap ∧ va_OF "java/lang/Enum" "ordinal" "I" (.int v) t A s s.heap := by
  obtain ⟨a, c, cell, k, q1, q2, q3, q4, q5, q6, -⟩ := Cond.exactly_spec hex
  exact ⟨a, va_Zref hl hini q1 hA, va_Oof hex q1 hA, va_OFo q1 hf hA⟩
theorem va_OF.inj {o n d : String} {v w : Value} {t : Nat} {A : Nat → Prop} {U : State} {H : Heap} (h1 : va_OF o n d v t A U H) (h2 : va_OF o n d w t A U H) : v = w := by
  obtain ⟨cf, k, i, f, cell, a1, a2, a3, a4, a5, -⟩ := h1
  obtain ⟨cf', k', i', f', cell', b1, b2, b3, b4, b5, -⟩ := h2
  rw [a1] at b1
  cases b1
  rw [a3] at b3
  cases b3
  rw [a5] at b5
  exact Option.some.inj b5
set_option maxHeartbeats 4000000 in
theorem start_ph {s : State} {b : Addr} (hts : ∀ w ∈ lw_tbl, w.before #[Value.ref b] s = true) (hgv : (Jvm.Cond.and given_1 narrow_1).before #[Value.ref b] s = true) {A : Nat → Prop} (hA : ∀ a : Nat, a < s.heap.size → ¬ A a) : ∃ ph : Nat → Nat, ∀ i, i < 10 → va_Z "ArbitratedBus$Phase" (gPhN i) "LArbitratedBus$Phase;" (.ref (ph i)) A s s.heap ∧ va_O (gPhC i) (ph i) A s s.heap ∧ va_OF "java/lang/Enum" "ordinal" "I" (.int (nI i)) (ph i) A s s.heap := by
  have hs := flat_of_before _ hgv
  obtain ⟨a0, h0⟩ := ph_1 (C := "ArbitratedBus$Phase") (n := "OUT") (d := "LArbitratedBus$Phase;") (E := "ArbitratedBus$Phase$1") (v := 0) (hts _ q1103) (hts _ (lw_all_tbl q110)) (hs _ (by decide +kernel)) (hs _ (by decide +kernel)) hA
  obtain ⟨a1, h1⟩ := ph_1 (C := "ArbitratedBus$Phase") (n := "SILENT") (d := "LArbitratedBus$Phase;") (E := "ArbitratedBus$Phase$2") (v := 1) (hts _ q2202) (hts _ (lw_all_tbl q110)) (hs _ (by decide +kernel)) (hs _ (by decide +kernel)) hA
  obtain ⟨a2, h2⟩ := ph_1 (C := "ArbitratedBus$Phase") (n := "LISTENING") (d := "LArbitratedBus$Phase;") (E := "ArbitratedBus$Phase$3") (v := 2) (hts _ q1128) (hts _ (lw_all_tbl q110)) (hs _ (by decide +kernel)) (hs _ (by decide +kernel)) hA
  obtain ⟨a3, h3⟩ := ph_1 (C := "ArbitratedBus$Phase") (n := "READY") (d := "LArbitratedBus$Phase;") (E := "ArbitratedBus$Phase$4") (v := 3) (hts _ q228) (hts _ (lw_all_tbl q110)) (hs _ (by decide +kernel)) (hs _ (by decide +kernel)) hA
  obtain ⟨a4, h4⟩ := ph_1 (C := "ArbitratedBus$Phase") (n := "BUSY") (d := "LArbitratedBus$Phase;") (E := "ArbitratedBus$Phase$5") (v := 4) (hts _ q1750) (hts _ (lw_all_tbl q110)) (hs _ (by decide +kernel)) (hs _ (by decide +kernel)) hA
  obtain ⟨a5, h5⟩ := ph_1 (C := "ArbitratedBus$Phase") (n := "FLAGGING") (d := "LArbitratedBus$Phase;") (E := "ArbitratedBus$Phase$6") (v := 5) (hts _ q2204) (hts _ (lw_all_tbl q110)) (hs _ (by decide +kernel)) (hs _ (by decide +kernel)) hA
  obtain ⟨a6, h6⟩ := ph_1 (C := "ArbitratedBus$Phase") (n := "OVERLOADED") (d := "LArbitratedBus$Phase;") (E := "ArbitratedBus$Phase$7") (v := 6) (hts _ q2223) (hts _ (lw_all_tbl q110)) (hs _ (by decide +kernel)) (hs _ (by decide +kernel)) hA
  obtain ⟨a7, h7⟩ := ph_1 (C := "ArbitratedBus$Phase") (n := "DELIMITING") (d := "LArbitratedBus$Phase;") (E := "ArbitratedBus$Phase$8") (v := 7) (hts _ q2260) (hts _ (lw_all_tbl q110)) (hs _ (by decide +kernel)) (hs _ (by decide +kernel)) hA
  obtain ⟨a8, h8⟩ := ph_1 (C := "ArbitratedBus$Phase") (n := "PAUSING") (d := "LArbitratedBus$Phase;") (E := "ArbitratedBus$Phase$9") (v := 8) (hts _ q2234) (hts _ (lw_all_tbl q110)) (hs _ (by decide +kernel)) (hs _ (by decide +kernel)) hA
  obtain ⟨a9, h9⟩ := ph_1 (C := "ArbitratedBus$Phase") (n := "SUSPENDED") (d := "LArbitratedBus$Phase;") (E := "ArbitratedBus$Phase$10") (v := 9) (hts _ q2281) (hts _ (lw_all_tbl q110)) (hs _ (by decide +kernel)) (hs _ (by decide +kernel)) hA
  refine ⟨fun k => ([a0, a1, a2, a3, a4, a5, a6, a7, a8, a9] : List Nat).getD k a0, ?_⟩
  intro i hi
  match i, hi with
  | 0, _ => exact h0
  | 1, _ => exact h1
  | 2, _ => exact h2
  | 3, _ => exact h3
  | 4, _ => exact h4
  | 5, _ => exact h5
  | 6, _ => exact h6
  | 7, _ => exact h7
  | 8, _ => exact h8
  | 9, _ => exact h9
  | k + 10, h => exact absurd h (by omega)
set_option maxHeartbeats 4000000 in
theorem start_bx {s : State} {b : Addr} (hts : ∀ w ∈ lw_tbl, w.before #[Value.ref b] s = true) (hgv : (Jvm.Cond.and given_1 narrow_1).before #[Value.ref b] s = true) {A : Nat → Prop} (hA : ∀ a : Nat, a < s.heap.size → ¬ A a) : ∃ (bx : Nat → Nat) (ca : Nat), vb_C bx A s s.heap ∧ va_Z "java/lang/Integer$IntegerCache" "high" "I" (.int 127) A s s.heap ∧ va_Z "java/lang/Integer$IntegerCache" "cache" "[Ljava/lang/Integer;" (.ref ca) A s s.heap ∧ va_T (.object "java/lang/Integer") ca 256 (fun k => .ref (bx k)) A s s.heap ∧ va_Zq "java/lang/Throwable" "UNASSIGNED_STACK" "[Ljava/lang/StackTraceElement;" A s s.heap ∧ va_Zq "java/lang/Throwable" "SUPPRESSED_SENTINEL" "Ljava/util/List;" A s s.heap := by
  have hs := flat_of_before _ hgv
  have hlen : (Term.length (.static "java/lang/Integer$IntegerCache" "cache" "[Ljava/lang/Integer;")).eval #[Value.ref b] s none [] s = some (.int (Int32.ofNat 256)) := va_eqt (hs (.eq (.length (.static "java/lang/Integer$IntegerCache" "cache" "[Ljava/lang/Integer;")) (.int 256)) (by decide +kernel))
  obtain ⟨bx, h1, h2⟩ := vb_Cof (args := #[Value.ref b]) (A := A) (st := (.static "java/lang/Integer$IntegerCache" "cache" "[Ljava/lang/Integer;")) rfl hlen (hs _ (by decide +kernel)) hA
  obtain ⟨ca, h3, h4⟩ := va_Tof (args := #[Value.ref b]) (A := A) (ty := .object "java/lang/Integer") (tm := (.static "java/lang/Integer$IntegerCache" "cache" "[Ljava/lang/Integer;")) (N := 256) (f := fun k => .ref (bx k)) (by decide) (hs _ (by decide +kernel)) hlen h2 hA
  exact ⟨bx, ca, h1, va_Zof (hts _ q574) (hts _ (lw_all_tbl q124)) (va_eqt (hs (.eq (.static "java/lang/Integer$IntegerCache" "high" "I") (.int 127)) (by decide +kernel))) hA, va_Zref (hts _ q576) (hts _ (lw_all_tbl q124)) h3 hA, h4, va_Zqof (hts _ q1450) (hts _ (lw_all_tbl q140)) (hs _ (by decide +kernel)) hA, va_Zqof (hts _ q1452) (hts _ (lw_all_tbl q140)) (hs _ (by decide +kernel)) hA⟩
theorem start_if {s : State} {b : Addr} (hts : ∀ w ∈ lw_tbl, w.before #[Value.ref b] s = true) : gIfs s := by
  unfold gIfs gIf
  simp only [List.forall_mem_cons]
  exact ⟨va_Fw.of (hts _ q605) (hts _ q604) (hts _ q610) (hts _ q608) (hts _ q606), va_Fw.of (hts _ q631) (hts _ q630) (hts _ q636) (hts _ q634) (hts _ q632), va_Fw.of (hts _ q1262) (hts _ q1261) (hts _ q1328) (hts _ q1326) (hts _ q1324), va_Fw.of (hts _ q1343) (hts _ q1342) (hts _ q1719) (hts _ q1717) (hts _ q1324), va_Fw.of (hts _ q1262) (hts _ q1261) (hts _ q1307) (hts _ q1305) (hts _ q1303), va_Fw.of (hts _ q1343) (hts _ q1342) (hts _ q1685) (hts _ q1683) (hts _ q1303), va_Fw.of (hts _ q1262) (hts _ q1261) (hts _ q1338) (hts _ q1336) (hts _ q1334), va_Fw.of (hts _ q1343) (hts _ q1342) (hts _ q1736) (hts _ q1734) (hts _ q1334), va_Fw.of (hts _ q1262) (hts _ q1261) (hts _ q1322) (hts _ q1320) (hts _ q1318), va_Fw.of (hts _ q1343) (hts _ q1342) (hts _ q1709) (hts _ q1707) (hts _ q1318), va_Fw.of (hts _ q1968) (hts _ q1967) (hts _ q2067) (hts _ q2065) (hts _ q1318), va_Fw.of (hts _ q1262) (hts _ q1261) (hts _ q1267) (hts _ q1265) (hts _ q1263), va_Fw.of (hts _ q1343) (hts _ q1342) (hts _ q1347) (hts _ q1345) (hts _ q1263), va_Fw.of (hts _ q1262) (hts _ q1261) (hts _ q1313) (hts _ q1311) (hts _ q1309), va_Fw.of (hts _ q1343) (hts _ q1342) (hts _ q1696) (hts _ q1694) (hts _ q1309), va_Fw.of (hts _ q2501) (hts _ q2500) (hts _ q2506) (hts _ q2504) (hts _ q2502), fun q hq => nomatch hq⟩
theorem start_K {s : State} {b : Addr} (hts : ∀ w ∈ lw_tbl, w.before #[Value.ref b] s = true) (hgv : (Jvm.Cond.and given_1 narrow_1).before #[Value.ref b] s = true) : ∃ G : gG, gz G = s.heap.size ∧ gK G s := by
  have hA : ∀ a : Nat, a < s.heap.size → ¬ (fun q : Nat => s.heap.size ≤ q) a := fun a h => Nat.not_le.mpr h
  obtain ⟨dC, dI, hc⟩ := start_cls hts
  obtain ⟨cs, ha⟩ := start_arr hts
  obtain ⟨ph, hp⟩ := start_ph hts hgv hA
  obtain ⟨bx, ca, hb⟩ := start_bx hts hgv hA
  refine ⟨((dC, dI), cs, ph, bx, s.heap.size, ca), rfl, ⟨hc, ha⟩, hp, fun i j hi hj e => ?_, hb, fun w hw hk => va_Nw.of (gNk_tab hk) (hts w hw), ⟨va_AO.of (hts _ q289), va_AO.of (hts _ q185), va_AO.of (hts _ q501)⟩, start_if hts, Nat.le_refl _⟩
  have h1 := (hp i hi).2.2
  have h2 := (hp j hj).2.2
  have e' : ph i = ph j := e
  rw [← e'] at h2
  exact nn_eq (by omega) (by omega) (Value.int.inj (h1.inj h2))
