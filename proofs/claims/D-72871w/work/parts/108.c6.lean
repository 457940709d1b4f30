/-! TreeMap: mending after an insertion -/
set_option maxRecDepth 100000
def fxM (Ns : List Nat) (ρ : Nat → Int) (lo hi pa : Nat → Option Nat) (co : Nat → Bool) (x : Nat) : Nat := match pa x with | none => 0 | some p => if co p = true then 0 else 1 + (Ns.length - tmw Ns ρ lo hi x)
theorem fxM_z {Ns : List Nat} {ρ : Nat → Int} {lo hi pa : Nat → Option Nat} {co : Nat → Bool} {x p : Nat} (h1 : pa x = some p) (h2 : co p = true) : fxM Ns ρ lo hi pa co x = 0 := by simp only [fxM, h1, h2, if_true]
theorem fxM_p {Ns : List Nat} {ρ : Nat → Int} {lo hi pa : Nat → Option Nat} {co : Nat → Bool} {x p : Nat} (h1 : pa x = some p) (h2 : co p = false) : fxM Ns ρ lo hi pa co x = 1 + (Ns.length - tmw Ns ρ lo hi x) := by simp only [fxM, h1, h2, if_false, Bool.false_eq_true]
theorem fxM_le {Ns : List Nat} {ρ : Nat → Int} {lo hi pa : Nat → Option Nat} {co : Nat → Bool} {x : Nat} : fxM Ns ρ lo hi pa co x ≤ 1 + (Ns.length - tmw Ns ρ lo hi x) := by
  unfold fxM
  split
  · omega
  · split <;> omega
theorem tmI.rt0 {r : Option Nat} {Ns : List Nat} {ρ : Nat → Int} {lf rt pa lo hi : Nat → Option Nat} (h : tmI r Ns ρ lf rt pa lo hi) {a : Nat} (ha : a ∈ Ns) : ∃ r0, r = some r0 ∧ r0 ∈ Ns := by
  cases e : r with
  | none => have := h.2.2.1 e; rw [this] at ha; cases ha
  | some r0 => exact ⟨r0, rfl, (h.2.1 r0 e).1⟩
theorem tmI.pa0 {r : Option Nat} {Ns : List Nat} {ρ : Nat → Int} {lf rt pa lo hi : Nat → Option Nat} (h : tmI r Ns ρ lf rt pa lo hi) {a : Nat} (ha : a ∈ Ns) (hn : ¬ some a = r) : ∃ p, pa a = some p ∧ p ∈ Ns ∧ p ≠ a := by
  cases e : pa a with
  | none => exact absurd (h.2.2.2.2.2.2.2.2.2.1 a ha e).symm hn
  | some p => exact ⟨p, rfl, (h.2.2.2.2.2.2.2.2.1 a ha p e).1, h.nepa ha e⟩
theorem tmI.ch {r : Option Nat} {Ns : List Nat} {ρ : Nat → Int} {lf rt pa lo hi : Nat → Option Nat} (h : tmI r Ns ρ lf rt pa lo hi) {a p : Nat} (ha : a ∈ Ns) (hp : pa a = some p) : lf p = some a ∨ rt p = some a := (h.2.2.2.2.2.2.2.2.1 a ha p hp).2
theorem tmI.lfm {r : Option Nat} {Ns : List Nat} {ρ : Nat → Int} {lf rt pa lo hi : Nat → Option Nat} (h : tmI r Ns ρ lf rt pa lo hi) {a b : Nat} (ha : a ∈ Ns) (hb : lf a = some b) : b ∈ Ns ∧ pa b = some a := ⟨(h.2.2.2.2.1 a ha b hb).1, (h.2.2.2.2.1 a ha b hb).2.1⟩
theorem tmI.rtm {r : Option Nat} {Ns : List Nat} {ρ : Nat → Int} {lf rt pa lo hi : Nat → Option Nat} (h : tmI r Ns ρ lf rt pa lo hi) {a b : Nat} (ha : a ∈ Ns) (hb : rt a = some b) : b ∈ Ns ∧ pa b = some a := ⟨(h.2.2.2.2.2.1 a ha b hb).1, (h.2.2.2.2.2.1 a ha b hb).2.1⟩
theorem tmI.lr {r : Option Nat} {Ns : List Nat} {ρ : Nat → Int} {lf rt pa lo hi : Nat → Option Nat} (h : tmI r Ns ρ lf rt pa lo hi) {a b : Nat} (ha : a ∈ Ns) (hb : lf a = some b) : rt a ≠ some b := fun q => by
  have h1 := h.2.2.2.2.1 a ha b hb
  have h2 := h.2.2.2.2.2.1 a ha b q
  have e1 := ((h.2.2.2.1 b h1.1).2 a h1.2.2.2).2
  have e2 := ((h.2.2.2.1 b h1.1).1 a h2.2.2.1).2
  omega
theorem tmI.none_up {r : Option Nat} {Ns : List Nat} {ρ : Nat → Int} {lf rt pa lo hi : Nat → Option Nat} (h : tmI r Ns ρ lf rt pa lo hi) {p : Nat} (hp : p ∈ Ns) : pa p ≠ some p := fun q => h.nepa hp q rfl
set_option maxHeartbeats 4000000 in
theorem met_TM_fixI (l : Launch) (G : gG) (M : gM) (mp : Nat) (t0 : Nat × Nat) (cm : Nat) (r : Option Nat) (n : Nat) (mc : Int32) (ks : Option Nat) (t1 : Nat × Nat) (Ns : List Nat) (kb : Nat → Nat) (vl : Nat → Nat) (lf : Nat → Option Nat) (rt : Nat → Option Nat) (pa : Nat → Option Nat) (co : Nat → Bool) (rho : Nat → Int) (lo : Nat → Option Nat) (hi : Nat → Option Nat) (x0 : Nat) (hI : tmI r Ns rho lf rt pa lo hi) (hx0 : x0 ∈ Ns) (ht : ¬ (t0.1 = t1.1 ∧ t0.2 = t1.2)) (hM_0 : M mp = some (t0, .inr (24, [.null, .null, .ref cm, va_rf r, .int (nI n), .int mc, .null, va_rf ks, .null]))) (hP_0 : tmE M t1 Ns kb vl lf rt pa co) : Met l yJ9_fixAfterInsertion (ws_ yJ9_fixAfterInsertion cJ9_fixAfterInsertion 3 none) ({ frames := 1, cells := 0, slots := 0, locals := 22 }) (gPc G [.ref mp, .ref x0] M) (gQv G (fun M9 k9 => ∃ lf1 : Nat → Option Nat, ∃ rt1 : Nat → Option Nat, ∃ pa1 : Nat → Option Nat, ∃ co1 : Nat → Bool, ∃ r1 : Option Nat, ∃ lo1 : Nat → Option Nat, ∃ hi1 : Nat → Option Nat, M9 mp = some (t0, .inr (24, [.null, .null, .ref cm, va_rf r1, .int (nI n), .int mc, .null, va_rf ks, .null])) ∧ tmE M9 t1 Ns kb vl lf1 rt1 pa1 co1 ∧ gFr (gT (fun t => tgE t0.1 t0.2 t ∨ tgE t1.1 t1.2 t)) M M9 ∧ tmI r1 Ns rho lf1 rt1 pa1 lo1 hi1 ∧ k9 = 0)) 0 0 (gA G) := by
  refine gMet [(0, .ref mp), (1, .ref x0)] (by decide) (Nat.le_of_ble_eq_true rfl) rfl ?_
  intro p e s m below meth c hC
  refine g_aload_n hC dJ9_fixAfterInsertion_0 1 rfl gRef_r 1 rfl ?_
  refine g_iconst hC dJ9_fixAfterInsertion_1 ki_0 2 rfl ?_
  refine g_topi (y := bI false) rfl ?_
  refine g_put hC cI25 (hP_0 x0 hx0) 5 (Nat.le_of_ble_eq_true rfl) q1034 rfl (bI_n false) (bI_fit false) (Nat.le_of_ble_eq_true rfl) dJ9_fixAfterInsertion_2 (fs' := [.ref (kb x0), .ref (vl x0), va_rf (lf x0), va_rf (rt x0), va_rf (pa x0), .int (bI false)]) rfl 5 rfl (fun M1 hU2 => ?_)
  have hE3 : tmE M1 t1 Ns kb vl lf rt pa (va_up co x0 false) := tmE.s5 hP_0 (v := false) hU2
  have loop5 : ∀ (n9 : Nat) (x : Nat) (lf : Nat → Option Nat) (rt : Nat → Option Nat) (pa : Nat → Option Nat) (co : Nat → Bool) (r : Option Nat) (lo : Nat → Option Nat) (hi : Nat → Option Nat) (ML : gM), (hI : tmI r Ns rho lf rt pa lo hi) → (hx : x ∈ Ns) → fxM Ns rho lo hi pa co x < n9 → (ML mp = some (t0, .inr (24, [.null, .null, .ref cm, va_rf r, .int (nI n), .int mc, .null, va_rf ks, .null]))) → (tmE ML t1 Ns kb vl lf rt pa co) → gFr (gT (fun t => tgE t0.1 t0.2 t ∨ tgE t1.1 t1.2 t)) M ML → gJ p l e ({ frames := 1, cells := 0, slots := 0, locals := 22 } : Room) s m ([.ref mp, .ref x0] : List Value).toArray below meth c G 3 (MQ below (gQv G (fun M9 k9 => ∃ lf1 : Nat → Option Nat, ∃ rt1 : Nat → Option Nat, ∃ pa1 : Nat → Option Nat, ∃ co1 : Nat → Bool, ∃ r1 : Option Nat, ∃ lo1 : Nat → Option Nat, ∃ hi1 : Nat → Option Nat, M9 mp = some (t0, .inr (24, [.null, .null, .ref cm, va_rf r1, .int (nI n), .int mc, .null, va_rf ks, .null])) ∧ tmE M9 t1 Ns kb vl lf1 rt1 pa1 co1 ∧ gFr (gT (fun t => tgE t0.1 t0.2 t ∨ tgE t1.1 t1.2 t)) M M9 ∧ tmI r1 Ns rho lf1 rt1 pa1 lo1 hi1 ∧ k9 = 0)) ([.ref mp, .ref x0] : List Value).toArray s 0 0 (gA G)) 0 0 ML 5 [(0, .ref mp), (1, .ref x)] [] := by
    intro n9
    induction n9 with
    | zero => intro x lf rt pa co r lo hi ML hI hx hmu; exact absurd hmu (Nat.not_lt_zero _)
    | succ n9 ih =>
      intro x lf rt pa co r lo hi ML hI hx hmu hL_0 hLp_0 hLF
      refine g_aload_n hC dJ9_fixAfterInsertion_5 1 rfl gRef_r 6 rfl ?_
      refine g_ifnull (r := some x) hC dJ9_fixAfterInsertion_6 258 rfl 9 rfl (fun q => by cases q) (fun _ _ => ?_)
      refine g_aload_n hC dJ9_fixAfterInsertion_9 1 rfl gRef_r 10 rfl ?_
      refine g_aload_n hC dJ9_fixAfterInsertion_10 0 rfl gRef_r 11 rfl ?_
      refine g_get (v := va_rf r) hC cI24 hL_0 3 (Nat.le_of_ble_eq_true rfl) q343 rfl dJ9_fixAfterInsertion_11 14 rfl ?_
      refine g_acmp_eq (rx := some x) (ry := r) hC dJ9_fixAfterInsertion_14 258 rfl 17 rfl (fun c_5 => ?_) (fun c_5 => ?_)
      · refine g_aload_n hC dJ9_fixAfterInsertion_258 0 rfl gRef_r 259 rfl ?_
        refine g_get (v := va_rf r) hC cI24 hL_0 3 (Nat.le_of_ble_eq_true rfl) q343 rfl dJ9_fixAfterInsertion_259 262 rfl ?_
        obtain ⟨r9, hr9, hrm⟩ := hI.rt0 hx
        refine g_topv (y := .ref r9) (by rw [hr9]; rfl) ?_
        refine g_iconst hC dJ9_fixAfterInsertion_262 ki_1 263 rfl ?_
        refine g_topi (y := bI true) rfl ?_
        refine g_put hC cI25 (hLp_0 r9 hrm) 5 (Nat.le_of_ble_eq_true rfl) q1034 rfl (bI_n true) (bI_fit true) (Nat.le_of_ble_eq_true rfl) dJ9_fixAfterInsertion_263 (fs' := [.ref (kb r9), .ref (vl r9), va_rf (lf r9), va_rf (rt r9), va_rf (pa r9), .int (bI true)]) rfl 266 rfl (fun M6 hU7 => ?_)
        have hE8 : tmE M6 t1 Ns kb vl lf rt pa (va_up co r9 true) := tmE.s5 hLp_0 (v := true) hU7
        exact g_vret hC (fun k9 hk9 => ⟨lf, rt, pa, (va_up co r9 true), r, lo, hi, (hU7.n (gne_c hL_0 (hLp_0 r9 hrm) (by decide)) hL_0), hE8, (hLF.trans (gFr.refl.up hU7 (hLp_0 r9 hrm) (show (fun t => tgE t0.1 t0.2 t ∨ tgE t1.1 t1.2 t) t1 by (try simp only [ndT, tgE, gT, tgR, ndT9, tg0, Prod.mk.injEq]); first | done | omega | (simp; done)))), hI, (by first | exact Nat.le_zero.mp hk9 | omega)⟩) dJ9_fixAfterInsertion_266 (Nat.le_of_ble_eq_true rfl) (Nat.le_of_ble_eq_true rfl)
      · obtain ⟨p9, hp9, hpm, hpx⟩ := hI.pa0 hx c_5
        refine g_aload_n hC dJ9_fixAfterInsertion_17 1 rfl gRef_r 18 rfl ?_
        refine g_get (v := va_rf (pa x)) hC cI25 (hLp_0 x hx) 4 (Nat.le_of_ble_eq_true rfl) q1032 rfl dJ9_fixAfterInsertion_18 21 rfl ?_
        refine g_topv (y := .ref p9) (congrArg va_rf (show pa x = some p9 from hp9)) ?_
        refine g_get (v := .int (bI (co p9))) hC cI25 (hLp_0 p9 hpm) 5 (Nat.le_of_ble_eq_true rfl) q1034 rfl dJ9_fixAfterInsertion_21 24 rfl ?_
        refine g_if_ne hC dJ9_fixAfterInsertion_24 258 rfl 27 rfl (fun c_9 => ?_) (fun c_9 => ?_)
        · replace c_9 : co p9 = true := bB_n0 c_9
          refine g_aload_n hC dJ9_fixAfterInsertion_258 0 rfl gRef_r 259 rfl ?_
          refine g_get (v := va_rf r) hC cI24 hL_0 3 (Nat.le_of_ble_eq_true rfl) q343 rfl dJ9_fixAfterInsertion_259 262 rfl ?_
          obtain ⟨r9, hr9, hrm⟩ := hI.rt0 hx
          refine g_topv (y := .ref r9) (by rw [hr9]; rfl) ?_
          refine g_iconst hC dJ9_fixAfterInsertion_262 ki_1 263 rfl ?_
          refine g_topi (y := bI true) rfl ?_
          refine g_put hC cI25 (hLp_0 r9 hrm) 5 (Nat.le_of_ble_eq_true rfl) q1034 rfl (bI_n true) (bI_fit true) (Nat.le_of_ble_eq_true rfl) dJ9_fixAfterInsertion_263 (fs' := [.ref (kb r9), .ref (vl r9), va_rf (lf r9), va_rf (rt r9), va_rf (pa r9), .int (bI true)]) rfl 266 rfl (fun M10 hU11 => ?_)
          have hE12 : tmE M10 t1 Ns kb vl lf rt pa (va_up co r9 true) := tmE.s5 hLp_0 (v := true) hU11
          exact g_vret hC (fun k9 hk9 => ⟨lf, rt, pa, (va_up co r9 true), r, lo, hi, (hU11.n (gne_c hL_0 (hLp_0 r9 hrm) (by decide)) hL_0), hE12, (hLF.trans (gFr.refl.up hU11 (hLp_0 r9 hrm) (show (fun t => tgE t0.1 t0.2 t ∨ tgE t1.1 t1.2 t) t1 by (try simp only [ndT, tgE, gT, tgR, ndT9, tg0, Prod.mk.injEq]); first | done | omega | (simp; done)))), hI, (by first | exact Nat.le_zero.mp hk9 | omega)⟩) dJ9_fixAfterInsertion_266 (Nat.le_of_ble_eq_true rfl) (Nat.le_of_ble_eq_true rfl)
        · replace c_9 : co p9 = false := bB_e0 c_9
          rcases hg : pa p9 with _ | g9
          · skip
            refine g_aload_n hC dJ9_fixAfterInsertion_27 1 rfl gRef_r 28 rfl ?_
            refine g_callqP (g_S (As := [.ref x]) (rest := []) hC msJ9_parentOf q1056 (met_TM_parentOf l G ML t1 Ns kb vl lf rt pa co x hx hLp_0) ⟨rfl, rfl⟩ ⟨(Nat.le_of_ble_eq_true rfl), (Nat.le_of_ble_eq_true rfl)⟩ rfl (Nat.le_of_ble_eq_true rfl) dJ9_fixAfterInsertion_28 rfl ⟨(Nat.le_of_ble_eq_true rfl), (Nat.le_of_ble_eq_true rfl)⟩) 31 rfl 0 (Nat.le_of_ble_eq_true rfl) ?_
            refine g_topv (y := .ref p9) (congrArg va_rf (show pa x = some p9 from hp9)) ?_
            refine g_aload_n hC dJ9_fixAfterInsertion_31 1 rfl gRef_r 32 rfl ?_
            refine g_callqP (g_S (As := [.ref x]) (rest := [.ref p9]) hC msJ9_parentOf q1056 (met_TM_parentOf l G ML t1 Ns kb vl lf rt pa co x hx hLp_0) ⟨rfl, rfl⟩ ⟨(Nat.le_of_ble_eq_true rfl), (Nat.le_of_ble_eq_true rfl)⟩ rfl (Nat.le_of_ble_eq_true rfl) dJ9_fixAfterInsertion_32 rfl ⟨(Nat.le_of_ble_eq_true rfl), (Nat.le_of_ble_eq_true rfl)⟩) 35 rfl 0 (Nat.le_of_ble_eq_true rfl) ?_
            refine g_topv (y := .ref p9) (congrArg va_rf (show pa x = some p9 from hp9)) ?_
            refine g_callqP (g_S (As := [.ref p9]) (rest := [.ref p9]) hC msJ9_parentOf q1056 (met_TM_parentOf l G ML t1 Ns kb vl lf rt pa co p9 hpm hLp_0) ⟨rfl, rfl⟩ ⟨(Nat.le_of_ble_eq_true rfl), (Nat.le_of_ble_eq_true rfl)⟩ rfl (Nat.le_of_ble_eq_true rfl) dJ9_fixAfterInsertion_35 rfl ⟨(Nat.le_of_ble_eq_true rfl), (Nat.le_of_ble_eq_true rfl)⟩) 38 rfl 0 (Nat.le_of_ble_eq_true rfl) ?_
            refine g_topv (y := .null) (congrArg va_rf (show pa p9 = none from hg)) ?_
            refine g_callqP (g_S (As := [.null]) (rest := [.ref p9]) hC msJ9_leftOf q1059 (met_TM_leftOf_n l G ML ) ⟨rfl, rfl⟩ ⟨(Nat.le_of_ble_eq_true rfl), (Nat.le_of_ble_eq_true rfl)⟩ rfl (Nat.le_of_ble_eq_true rfl) dJ9_fixAfterInsertion_38 rfl ⟨(Nat.le_of_ble_eq_true rfl), (Nat.le_of_ble_eq_true rfl)⟩) 41 rfl 0 (Nat.le_of_ble_eq_true rfl) ?_
            refine g_acmp_ne (rx := some p9) (ry := none) hC dJ9_fixAfterInsertion_41 151 rfl 44 rfl (fun c_13 => ?_) (fun c_13 => ?_)
            · refine g_aload_n hC dJ9_fixAfterInsertion_151 1 rfl gRef_r 152 rfl ?_
              refine g_callqP (g_S (As := [.ref x]) (rest := []) hC msJ9_parentOf q1056 (met_TM_parentOf l G ML t1 Ns kb vl lf rt pa co x hx hLp_0) ⟨rfl, rfl⟩ ⟨(Nat.le_of_ble_eq_true rfl), (Nat.le_of_ble_eq_true rfl)⟩ rfl (Nat.le_of_ble_eq_true rfl) dJ9_fixAfterInsertion_152 rfl ⟨(Nat.le_of_ble_eq_true rfl), (Nat.le_of_ble_eq_true rfl)⟩) 155 rfl 0 (Nat.le_of_ble_eq_true rfl) ?_
              refine g_topv (y := .ref p9) (congrArg va_rf (show pa x = some p9 from hp9)) ?_
              refine g_callqP (g_S (As := [.ref p9]) (rest := []) hC msJ9_parentOf q1056 (met_TM_parentOf l G ML t1 Ns kb vl lf rt pa co p9 hpm hLp_0) ⟨rfl, rfl⟩ ⟨(Nat.le_of_ble_eq_true rfl), (Nat.le_of_ble_eq_true rfl)⟩ rfl (Nat.le_of_ble_eq_true rfl) dJ9_fixAfterInsertion_155 rfl ⟨(Nat.le_of_ble_eq_true rfl), (Nat.le_of_ble_eq_true rfl)⟩) 158 rfl 0 (Nat.le_of_ble_eq_true rfl) ?_
              refine g_topv (y := .null) (congrArg va_rf (show pa p9 = none from hg)) ?_
              refine g_callqP (g_S (As := [.null]) (rest := []) hC msJ9_leftOf q1059 (met_TM_leftOf_n l G ML ) ⟨rfl, rfl⟩ ⟨(Nat.le_of_ble_eq_true rfl), (Nat.le_of_ble_eq_true rfl)⟩ rfl (Nat.le_of_ble_eq_true rfl) dJ9_fixAfterInsertion_158 rfl ⟨(Nat.le_of_ble_eq_true rfl), (Nat.le_of_ble_eq_true rfl)⟩) 161 rfl 0 (Nat.le_of_ble_eq_true rfl) ?_
              refine g_astore_n hC dJ9_fixAfterInsertion_161 rfl gRef_n (Nat.le_of_ble_eq_true rfl) [(2, .null), (0, .ref mp), (1, .ref x)] rfl 162 rfl ?_
              refine g_aload_n hC dJ9_fixAfterInsertion_162 0 rfl gRef_n 163 rfl ?_
              refine g_calliP (g_S (As := [.null]) (rest := []) hC msJ9_colorOf q1065 (met_TM_colorOf_n l G ML ) ⟨rfl, rfl⟩ ⟨(Nat.le_of_ble_eq_true rfl), (Nat.le_of_ble_eq_true rfl)⟩ rfl (Nat.le_of_ble_eq_true rfl) dJ9_fixAfterInsertion_163 rfl ⟨(Nat.le_of_ble_eq_true rfl), (Nat.le_of_ble_eq_true rfl)⟩) 166 rfl 0 (Nat.le_of_ble_eq_true rfl) ?_
              refine g_if_ne hC dJ9_fixAfterInsertion_166 204 rfl 169 rfl (fun c_14 => ?_) (fun c_14 => ?_)
              · refine g_aload_n hC dJ9_fixAfterInsertion_204 2 rfl gRef_r 205 rfl ?_
                refine g_aload_n hC dJ9_fixAfterInsertion_205 2 rfl gRef_r 206 rfl ?_
                refine g_callqP (g_S (As := [.ref x]) (rest := [.ref x]) hC msJ9_parentOf q1056 (met_TM_parentOf l G ML t1 Ns kb vl lf rt pa co x hx hLp_0) ⟨rfl, rfl⟩ ⟨(Nat.le_of_ble_eq_true rfl), (Nat.le_of_ble_eq_true rfl)⟩ rfl (Nat.le_of_ble_eq_true rfl) dJ9_fixAfterInsertion_206 rfl ⟨(Nat.le_of_ble_eq_true rfl), (Nat.le_of_ble_eq_true rfl)⟩) 209 rfl 0 (Nat.le_of_ble_eq_true rfl) ?_
                refine g_topv (y := .ref p9) (congrArg va_rf (show pa x = some p9 from hp9)) ?_
                refine g_callqP (g_S (As := [.ref p9]) (rest := [.ref x]) hC msJ9_leftOf q1059 (met_TM_leftOf l G ML t1 Ns kb vl lf rt pa co p9 hpm hLp_0) ⟨rfl, rfl⟩ ⟨(Nat.le_of_ble_eq_true rfl), (Nat.le_of_ble_eq_true rfl)⟩ rfl (Nat.le_of_ble_eq_true rfl) dJ9_fixAfterInsertion_209 rfl ⟨(Nat.le_of_ble_eq_true rfl), (Nat.le_of_ble_eq_true rfl)⟩) 212 rfl 0 (Nat.le_of_ble_eq_true rfl) ?_
                refine g_acmp_ne (rx := some x) (ry := lf p9) hC dJ9_fixAfterInsertion_212 225 rfl 215 rfl (fun c_15 => ?_) (fun c_15 => ?_)
                · refine g_aload_n hC dJ9_fixAfterInsertion_225 2 rfl gRef_r 226 rfl ?_
                  refine g_callqP (g_S (As := [.ref x]) (rest := []) hC msJ9_parentOf q1056 (met_TM_parentOf l G ML t1 Ns kb vl lf rt pa co x hx hLp_0) ⟨rfl, rfl⟩ ⟨(Nat.le_of_ble_eq_true rfl), (Nat.le_of_ble_eq_true rfl)⟩ rfl (Nat.le_of_ble_eq_true rfl) dJ9_fixAfterInsertion_226 rfl ⟨(Nat.le_of_ble_eq_true rfl), (Nat.le_of_ble_eq_true rfl)⟩) 229 rfl 0 (Nat.le_of_ble_eq_true rfl) ?_
                  refine g_topv (y := .ref p9) (congrArg va_rf (show pa x = some p9 from hp9)) ?_
                  refine g_iconst hC dJ9_fixAfterInsertion_229 ki_1 230 rfl ?_
                  refine g_callv (g_S (As := [.ref p9, .int 1]) (rest := []) hC msJ9_setColor q1068 (met_TM_setColor l G ML t1 Ns kb vl lf rt pa co p9 true hpm hLp_0) ⟨rfl, rfl⟩ ⟨(Nat.le_of_ble_eq_true rfl), (Nat.le_of_ble_eq_true rfl)⟩ rfl (Nat.le_of_ble_eq_true rfl) dJ9_fixAfterInsertion_230 rfl ⟨(Nat.le_of_ble_eq_true rfl), (Nat.le_of_ble_eq_true rfl)⟩) 0 (Nat.le_of_ble_eq_true rfl) 0 (Nat.le_of_ble_eq_true rfl) 233 rfl (fun M16 k17 hp18 => ?_)
                  obtain ⟨hpd20, hF21, hk22⟩ := hp18
                  refine g_aload_n hC dJ9_fixAfterInsertion_233 2 rfl gRef_r 234 rfl ?_
                  refine g_callqP (g_S (As := [.ref x]) (rest := []) hC msJ9_parentOf q1056 (met_TM_parentOf l G M16 t1 Ns kb vl lf rt pa (va_up co p9 true) x hx hpd20) ⟨rfl, rfl⟩ ⟨(Nat.le_of_ble_eq_true rfl), (Nat.le_of_ble_eq_true rfl)⟩ rfl (Nat.le_of_ble_eq_true rfl) dJ9_fixAfterInsertion_234 rfl ⟨(Nat.le_of_ble_eq_true rfl), (Nat.le_of_ble_eq_true rfl)⟩) 237 rfl 0 (Nat.le_of_ble_eq_true rfl) ?_
                  refine g_topv (y := .ref p9) (congrArg va_rf (show pa x = some p9 from hp9)) ?_
                  refine g_callqP (g_S (As := [.ref p9]) (rest := []) hC msJ9_parentOf q1056 (met_TM_parentOf l G M16 t1 Ns kb vl lf rt pa (va_up co p9 true) p9 hpm hpd20) ⟨rfl, rfl⟩ ⟨(Nat.le_of_ble_eq_true rfl), (Nat.le_of_ble_eq_true rfl)⟩ rfl (Nat.le_of_ble_eq_true rfl) dJ9_fixAfterInsertion_237 rfl ⟨(Nat.le_of_ble_eq_true rfl), (Nat.le_of_ble_eq_true rfl)⟩) 240 rfl 0 (Nat.le_of_ble_eq_true rfl) ?_
                  refine g_topv (y := .null) (congrArg va_rf (show pa p9 = none from hg)) ?_
                  refine g_iconst hC dJ9_fixAfterInsertion_240 ki_0 241 rfl ?_
                  refine g_callvP (g_S (As := [.null, .int 0]) (rest := []) hC msJ9_setColor q1068 (met_TM_setColor_n l G M16 false) ⟨rfl, rfl⟩ ⟨(Nat.le_of_ble_eq_true rfl), (Nat.le_of_ble_eq_true rfl)⟩ rfl (Nat.le_of_ble_eq_true rfl) dJ9_fixAfterInsertion_241 rfl ⟨(Nat.le_of_ble_eq_true rfl), (Nat.le_of_ble_eq_true rfl)⟩) 244 rfl 0 (Nat.le_of_ble_eq_true rfl) ?_
                  refine g_aload_n hC dJ9_fixAfterInsertion_244 1 rfl gRef_r 245 rfl ?_
                  refine g_aload_n hC dJ9_fixAfterInsertion_245 2 rfl gRef_r 246 rfl ?_
                  refine g_callqP (g_S (As := [.ref x]) (rest := [.ref mp]) hC msJ9_parentOf q1056 (met_TM_parentOf l G M16 t1 Ns kb vl lf rt pa (va_up co p9 true) x hx hpd20) ⟨rfl, rfl⟩ ⟨(Nat.le_of_ble_eq_true rfl), (Nat.le_of_ble_eq_true rfl)⟩ rfl (Nat.le_of_ble_eq_true rfl) dJ9_fixAfterInsertion_246 rfl ⟨(Nat.le_of_ble_eq_true rfl), (Nat.le_of_ble_eq_true rfl)⟩) 249 rfl 0 (Nat.le_of_ble_eq_true rfl) ?_
                  refine g_topv (y := .ref p9) (congrArg va_rf (show pa x = some p9 from hp9)) ?_
                  refine g_callqP (g_S (As := [.ref p9]) (rest := [.ref mp]) hC msJ9_parentOf q1056 (met_TM_parentOf l G M16 t1 Ns kb vl lf rt pa (va_up co p9 true) p9 hpm hpd20) ⟨rfl, rfl⟩ ⟨(Nat.le_of_ble_eq_true rfl), (Nat.le_of_ble_eq_true rfl)⟩ rfl (Nat.le_of_ble_eq_true rfl) dJ9_fixAfterInsertion_249 rfl ⟨(Nat.le_of_ble_eq_true rfl), (Nat.le_of_ble_eq_true rfl)⟩) 252 rfl 0 (Nat.le_of_ble_eq_true rfl) ?_
                  refine g_topv (y := .null) (congrArg va_rf (show pa p9 = none from hg)) ?_
                  refine g_callvP (g_V (As := [.null]) (rest := []) hC mvJ9_rotateLeft q1071 (gOf.of hC.K cI24 (hF21 _ _ _ hL_0 (show ¬ (tgE t1.1 t1.2) t0 by (try simp only [ndT, tgE, gT, tgR, ndT9, tg0, Prod.mk.injEq]); first | done | omega | (simp; done) | simp_all))) (met_TM_rotL_n l G M16 mp) ⟨rfl, rfl⟩ ⟨(Nat.le_of_ble_eq_true rfl), (Nat.le_of_ble_eq_true rfl)⟩ rfl (Nat.le_of_ble_eq_true rfl) dJ9_fixAfterInsertion_252 rfl ⟨(Nat.le_of_ble_eq_true rfl), (Nat.le_of_ble_eq_true rfl)⟩) 255 rfl 0 (Nat.le_of_ble_eq_true rfl) ?_
                  refine g_goto hC dJ9_fixAfterInsertion_255 5 rfl ?_
                  refine gJ.sub (M' := M16) [1, 2] rfl ?_
                  exact ih x lf rt pa (va_up co p9 true) r lo hi M16 hI hx (Nat.lt_of_lt_of_le (by rw [(fxM_p hp9 c_9), fxM_z hp9 (by rw [va_up_self])]; omega) (Nat.le_of_lt_succ hmu)) (hF21 _ _ _ hL_0 (show ¬ (tgE t1.1 t1.2) t0 by (try simp only [ndT, tgE, gT, tgR, ndT9, tg0, Prod.mk.injEq]); first | done | omega | (simp; done) | simp_all)) hpd20 (hLF.trans (gFr.refl.trans (hF21.mono (fun b t h => by obtain ⟨u9, v9⟩ := t; revert h; (try simp only [ndT, tgE, gT, tgR, ndT9, tg0, Prod.mk.injEq]); first | done | omega | (simp; done) | (intro h; simp_all; done)))))
                · refine g_aload_n hC dJ9_fixAfterInsertion_215 2 rfl gRef_r 216 rfl ?_
                  refine g_callqP (g_S (As := [.ref x]) (rest := []) hC msJ9_parentOf q1056 (met_TM_parentOf l G ML t1 Ns kb vl lf rt pa co x hx hLp_0) ⟨rfl, rfl⟩ ⟨(Nat.le_of_ble_eq_true rfl), (Nat.le_of_ble_eq_true rfl)⟩ rfl (Nat.le_of_ble_eq_true rfl) dJ9_fixAfterInsertion_216 rfl ⟨(Nat.le_of_ble_eq_true rfl), (Nat.le_of_ble_eq_true rfl)⟩) 219 rfl 0 (Nat.le_of_ble_eq_true rfl) ?_
                  refine g_topv (y := .ref p9) (congrArg va_rf (show pa x = some p9 from hp9)) ?_
                  refine g_astore_n hC dJ9_fixAfterInsertion_219 rfl gRef_r (Nat.le_of_ble_eq_true rfl) [(1, .ref p9), (2, .null), (0, .ref mp)] rfl 220 rfl ?_
                  refine g_aload_n hC dJ9_fixAfterInsertion_220 2 rfl gRef_r 221 rfl ?_
                  refine g_aload_n hC dJ9_fixAfterInsertion_221 0 rfl gRef_r 222 rfl ?_
                  refine g_callv (g_V (As := [.ref p9]) (rest := []) hC mvJ9_rotateRight q1075 (gOf.of hC.K cI24 hL_0) (met_TM_rotR l G ML mp t0 cm r n mc ks t1 Ns kb vl lf rt pa co rho lo hi p9 x hI hpm c_15.symm ht hL_0 hLp_0) ⟨rfl, rfl⟩ ⟨(Nat.le_of_ble_eq_true rfl), (Nat.le_of_ble_eq_true rfl)⟩ rfl (Nat.le_of_ble_eq_true rfl) dJ9_fixAfterInsertion_222 rfl ⟨(Nat.le_of_ble_eq_true rfl), (Nat.le_of_ble_eq_true rfl)⟩) 0 (Nat.le_of_ble_eq_true rfl) 0 (Nat.le_of_ble_eq_true rfl) 225 rfl (fun M23 k24 hp25 => ?_)
                  obtain ⟨hc27, hpd28, hF29, hk30⟩ := hp25
                  obtain ⟨lf31, elf31⟩ : ∃ z, z = rlR rt lf pa p9 x := ⟨_, rfl⟩
                  obtain ⟨rt31, ert31⟩ : ∃ z, z = rlL rt pa p9 x := ⟨_, rfl⟩
                  obtain ⟨pa31, epa31⟩ : ∃ z, z = rlP rt pa p9 x := ⟨_, rfl⟩
                  obtain ⟨rr31, err31⟩ : ∃ z, z = rlT r pa p9 x := ⟨_, rfl⟩
                  obtain ⟨lo31, elo31⟩ : ∃ z, z = va_up lo p9 (some x) := ⟨_, rfl⟩
                  obtain ⟨hi31, ehi31⟩ : ∃ z, z = va_up hi x (hi p9) := ⟨_, rfl⟩
                  rw [← elf31, ← ert31, ← epa31] at hpd28
                  rw [← err31] at hc27
                  have hI31 : tmI rr31 Ns rho lf31 rt31 pa31 lo31 hi31 := by rw [err31, elf31, ert31, epa31, elo31, ehi31]; exact hI.rotR hpm c_15.symm
                  have hf32 : pa31 p9 = some x := by rw [epa31]; exact rlP_p
                  have hf33 : pa31 x = none := by rw [epa31, rlP_q (Ne.symm hpx)]; exact hg
                  refine g_aload_n hC dJ9_fixAfterInsertion_225 0 rfl gRef_r 226 rfl ?_
                  refine g_callqP (g_S (As := [.ref p9]) (rest := []) hC msJ9_parentOf q1056 (met_TM_parentOf l G M23 t1 Ns kb vl lf31 rt31 pa31 co p9 hpm hpd28) ⟨rfl, rfl⟩ ⟨(Nat.le_of_ble_eq_true rfl), (Nat.le_of_ble_eq_true rfl)⟩ rfl (Nat.le_of_ble_eq_true rfl) dJ9_fixAfterInsertion_226 rfl ⟨(Nat.le_of_ble_eq_true rfl), (Nat.le_of_ble_eq_true rfl)⟩) 229 rfl 0 (Nat.le_of_ble_eq_true rfl) ?_
                  refine g_topv (y := .ref x) (congrArg va_rf (show pa31 p9 = some x from hf32)) ?_
                  refine g_iconst hC dJ9_fixAfterInsertion_229 ki_1 230 rfl ?_
                  refine g_callv (g_S (As := [.ref x, .int 1]) (rest := []) hC msJ9_setColor q1068 (met_TM_setColor l G M23 t1 Ns kb vl lf31 rt31 pa31 co x true hx hpd28) ⟨rfl, rfl⟩ ⟨(Nat.le_of_ble_eq_true rfl), (Nat.le_of_ble_eq_true rfl)⟩ rfl (Nat.le_of_ble_eq_true rfl) dJ9_fixAfterInsertion_230 rfl ⟨(Nat.le_of_ble_eq_true rfl), (Nat.le_of_ble_eq_true rfl)⟩) 0 (Nat.le_of_ble_eq_true rfl) 0 (Nat.le_of_ble_eq_true rfl) 233 rfl (fun M34 k35 hp36 => ?_)
                  obtain ⟨hpd38, hF39, hk40⟩ := hp36
                  refine g_aload_n hC dJ9_fixAfterInsertion_233 0 rfl gRef_r 234 rfl ?_
                  refine g_callqP (g_S (As := [.ref p9]) (rest := []) hC msJ9_parentOf q1056 (met_TM_parentOf l G M34 t1 Ns kb vl lf31 rt31 pa31 (va_up co x true) p9 hpm hpd38) ⟨rfl, rfl⟩ ⟨(Nat.le_of_ble_eq_true rfl), (Nat.le_of_ble_eq_true rfl)⟩ rfl (Nat.le_of_ble_eq_true rfl) dJ9_fixAfterInsertion_234 rfl ⟨(Nat.le_of_ble_eq_true rfl), (Nat.le_of_ble_eq_true rfl)⟩) 237 rfl 0 (Nat.le_of_ble_eq_true rfl) ?_
                  refine g_topv (y := .ref x) (congrArg va_rf (show pa31 p9 = some x from hf32)) ?_
                  refine g_callqP (g_S (As := [.ref x]) (rest := []) hC msJ9_parentOf q1056 (met_TM_parentOf l G M34 t1 Ns kb vl lf31 rt31 pa31 (va_up co x true) x hx hpd38) ⟨rfl, rfl⟩ ⟨(Nat.le_of_ble_eq_true rfl), (Nat.le_of_ble_eq_true rfl)⟩ rfl (Nat.le_of_ble_eq_true rfl) dJ9_fixAfterInsertion_237 rfl ⟨(Nat.le_of_ble_eq_true rfl), (Nat.le_of_ble_eq_true rfl)⟩) 240 rfl 0 (Nat.le_of_ble_eq_true rfl) ?_
                  refine g_topv (y := .null) (congrArg va_rf (show pa31 x = none from hf33)) ?_
                  refine g_iconst hC dJ9_fixAfterInsertion_240 ki_0 241 rfl ?_
                  refine g_callvP (g_S (As := [.null, .int 0]) (rest := []) hC msJ9_setColor q1068 (met_TM_setColor_n l G M34 false) ⟨rfl, rfl⟩ ⟨(Nat.le_of_ble_eq_true rfl), (Nat.le_of_ble_eq_true rfl)⟩ rfl (Nat.le_of_ble_eq_true rfl) dJ9_fixAfterInsertion_241 rfl ⟨(Nat.le_of_ble_eq_true rfl), (Nat.le_of_ble_eq_true rfl)⟩) 244 rfl 0 (Nat.le_of_ble_eq_true rfl) ?_
                  refine g_aload_n hC dJ9_fixAfterInsertion_244 2 rfl gRef_r 245 rfl ?_
                  refine g_aload_n hC dJ9_fixAfterInsertion_245 0 rfl gRef_r 246 rfl ?_
                  refine g_callqP (g_S (As := [.ref p9]) (rest := [.ref mp]) hC msJ9_parentOf q1056 (met_TM_parentOf l G M34 t1 Ns kb vl lf31 rt31 pa31 (va_up co x true) p9 hpm hpd38) ⟨rfl, rfl⟩ ⟨(Nat.le_of_ble_eq_true rfl), (Nat.le_of_ble_eq_true rfl)⟩ rfl (Nat.le_of_ble_eq_true rfl) dJ9_fixAfterInsertion_246 rfl ⟨(Nat.le_of_ble_eq_true rfl), (Nat.le_of_ble_eq_true rfl)⟩) 249 rfl 0 (Nat.le_of_ble_eq_true rfl) ?_
                  refine g_topv (y := .ref x) (congrArg va_rf (show pa31 p9 = some x from hf32)) ?_
                  refine g_callqP (g_S (As := [.ref x]) (rest := [.ref mp]) hC msJ9_parentOf q1056 (met_TM_parentOf l G M34 t1 Ns kb vl lf31 rt31 pa31 (va_up co x true) x hx hpd38) ⟨rfl, rfl⟩ ⟨(Nat.le_of_ble_eq_true rfl), (Nat.le_of_ble_eq_true rfl)⟩ rfl (Nat.le_of_ble_eq_true rfl) dJ9_fixAfterInsertion_249 rfl ⟨(Nat.le_of_ble_eq_true rfl), (Nat.le_of_ble_eq_true rfl)⟩) 252 rfl 0 (Nat.le_of_ble_eq_true rfl) ?_
                  refine g_topv (y := .null) (congrArg va_rf (show pa31 x = none from hf33)) ?_
                  refine g_callvP (g_V (As := [.null]) (rest := []) hC mvJ9_rotateLeft q1071 (gOf.of hC.K cI24 (hF39 _ _ _ hc27 (show ¬ (tgE t1.1 t1.2) t0 by (try simp only [ndT, tgE, gT, tgR, ndT9, tg0, Prod.mk.injEq]); first | done | omega | (simp; done) | simp_all))) (met_TM_rotL_n l G M34 mp) ⟨rfl, rfl⟩ ⟨(Nat.le_of_ble_eq_true rfl), (Nat.le_of_ble_eq_true rfl)⟩ rfl (Nat.le_of_ble_eq_true rfl) dJ9_fixAfterInsertion_252 rfl ⟨(Nat.le_of_ble_eq_true rfl), (Nat.le_of_ble_eq_true rfl)⟩) 255 rfl 0 (Nat.le_of_ble_eq_true rfl) ?_
                  refine g_goto hC dJ9_fixAfterInsertion_255 5 rfl ?_
                  refine gJ.sub (M' := M34) [2, 0] rfl ?_
                  exact ih p9 lf31 rt31 pa31 (va_up co x true) rr31 lo31 hi31 M34 hI31 hpm (Nat.lt_of_lt_of_le (by rw [(fxM_p hp9 c_9), fxM_z hf32 (by rw [va_up_self])]; omega) (Nat.le_of_lt_succ hmu)) (hF39 _ _ _ hc27 (show ¬ (tgE t1.1 t1.2) t0 by (try simp only [ndT, tgE, gT, tgR, ndT9, tg0, Prod.mk.injEq]); first | done | omega | (simp; done) | simp_all)) hpd38 (hLF.trans ((gFr.refl.trans (hF29.mono (fun b t h => by obtain ⟨u9, v9⟩ := t; revert h; (try simp only [ndT, tgE, gT, tgR, ndT9, tg0, Prod.mk.injEq]); first | done | omega | (simp; done) | (intro h; simp_all; done)))).trans (hF39.mono (fun b t h => by obtain ⟨u9, v9⟩ := t; revert h; (try simp only [ndT, tgE, gT, tgR, ndT9, tg0, Prod.mk.injEq]); first | done | omega | (simp; done) | (intro h; simp_all; done)))))
              · exact absurd c_14 (by decide)
            · cases c_13
          · have hgm : g9 ∈ Ns := (hI.2.2.2.2.2.2.2.2.1 p9 hpm g9 hg).1
            have hgp : g9 ≠ p9 := hI.nepa hpm hg
            have hgx : g9 ≠ x := hI.nepa2 hx hp9 hg
            refine g_aload_n hC dJ9_fixAfterInsertion_27 1 rfl gRef_r 28 rfl ?_
            refine g_callqP (g_S (As := [.ref x]) (rest := []) hC msJ9_parentOf q1056 (met_TM_parentOf l G ML t1 Ns kb vl lf rt pa co x hx hLp_0) ⟨rfl, rfl⟩ ⟨(Nat.le_of_ble_eq_true rfl), (Nat.le_of_ble_eq_true rfl)⟩ rfl (Nat.le_of_ble_eq_true rfl) dJ9_fixAfterInsertion_28 rfl ⟨(Nat.le_of_ble_eq_true rfl), (Nat.le_of_ble_eq_true rfl)⟩) 31 rfl 0 (Nat.le_of_ble_eq_true rfl) ?_
            refine g_topv (y := .ref p9) (congrArg va_rf (show pa x = some p9 from hp9)) ?_
            refine g_aload_n hC dJ9_fixAfterInsertion_31 1 rfl gRef_r 32 rfl ?_
            refine g_callqP (g_S (As := [.ref x]) (rest := [.ref p9]) hC msJ9_parentOf q1056 (met_TM_parentOf l G ML t1 Ns kb vl lf rt pa co x hx hLp_0) ⟨rfl, rfl⟩ ⟨(Nat.le_of_ble_eq_true rfl), (Nat.le_of_ble_eq_true rfl)⟩ rfl (Nat.le_of_ble_eq_true rfl) dJ9_fixAfterInsertion_32 rfl ⟨(Nat.le_of_ble_eq_true rfl), (Nat.le_of_ble_eq_true rfl)⟩) 35 rfl 0 (Nat.le_of_ble_eq_true rfl) ?_
            refine g_topv (y := .ref p9) (congrArg va_rf (show pa x = some p9 from hp9)) ?_
            refine g_callqP (g_S (As := [.ref p9]) (rest := [.ref p9]) hC msJ9_parentOf q1056 (met_TM_parentOf l G ML t1 Ns kb vl lf rt pa co p9 hpm hLp_0) ⟨rfl, rfl⟩ ⟨(Nat.le_of_ble_eq_true rfl), (Nat.le_of_ble_eq_true rfl)⟩ rfl (Nat.le_of_ble_eq_true rfl) dJ9_fixAfterInsertion_35 rfl ⟨(Nat.le_of_ble_eq_true rfl), (Nat.le_of_ble_eq_true rfl)⟩) 38 rfl 0 (Nat.le_of_ble_eq_true rfl) ?_
            refine g_topv (y := .ref g9) (congrArg va_rf (show pa p9 = some g9 from hg)) ?_
            refine g_callqP (g_S (As := [.ref g9]) (rest := [.ref p9]) hC msJ9_leftOf q1059 (met_TM_leftOf l G ML t1 Ns kb vl lf rt pa co g9 hgm hLp_0) ⟨rfl, rfl⟩ ⟨(Nat.le_of_ble_eq_true rfl), (Nat.le_of_ble_eq_true rfl)⟩ rfl (Nat.le_of_ble_eq_true rfl) dJ9_fixAfterInsertion_38 rfl ⟨(Nat.le_of_ble_eq_true rfl), (Nat.le_of_ble_eq_true rfl)⟩) 41 rfl 0 (Nat.le_of_ble_eq_true rfl) ?_
            refine g_acmp_ne (rx := some p9) (ry := lf g9) hC dJ9_fixAfterInsertion_41 151 rfl 44 rfl (fun c_41 => ?_) (fun c_41 => ?_)
            · have hrg : rt g9 = some p9 := (hI.ch hpm hg).resolve_left (fun q => c_41 q.symm)
              refine g_aload_n hC dJ9_fixAfterInsertion_151 1 rfl gRef_r 152 rfl ?_
              refine g_callqP (g_S (As := [.ref x]) (rest := []) hC msJ9_parentOf q1056 (met_TM_parentOf l G ML t1 Ns kb vl lf rt pa co x hx hLp_0) ⟨rfl, rfl⟩ ⟨(Nat.le_of_ble_eq_true rfl), (Nat.le_of_ble_eq_true rfl)⟩ rfl (Nat.le_of_ble_eq_true rfl) dJ9_fixAfterInsertion_152 rfl ⟨(Nat.le_of_ble_eq_true rfl), (Nat.le_of_ble_eq_true rfl)⟩) 155 rfl 0 (Nat.le_of_ble_eq_true rfl) ?_
              refine g_topv (y := .ref p9) (congrArg va_rf (show pa x = some p9 from hp9)) ?_
              refine g_callqP (g_S (As := [.ref p9]) (rest := []) hC msJ9_parentOf q1056 (met_TM_parentOf l G ML t1 Ns kb vl lf rt pa co p9 hpm hLp_0) ⟨rfl, rfl⟩ ⟨(Nat.le_of_ble_eq_true rfl), (Nat.le_of_ble_eq_true rfl)⟩ rfl (Nat.le_of_ble_eq_true rfl) dJ9_fixAfterInsertion_155 rfl ⟨(Nat.le_of_ble_eq_true rfl), (Nat.le_of_ble_eq_true rfl)⟩) 158 rfl 0 (Nat.le_of_ble_eq_true rfl) ?_
              refine g_topv (y := .ref g9) (congrArg va_rf (show pa p9 = some g9 from hg)) ?_
              refine g_callqP (g_S (As := [.ref g9]) (rest := []) hC msJ9_leftOf q1059 (met_TM_leftOf l G ML t1 Ns kb vl lf rt pa co g9 hgm hLp_0) ⟨rfl, rfl⟩ ⟨(Nat.le_of_ble_eq_true rfl), (Nat.le_of_ble_eq_true rfl)⟩ rfl (Nat.le_of_ble_eq_true rfl) dJ9_fixAfterInsertion_158 rfl ⟨(Nat.le_of_ble_eq_true rfl), (Nat.le_of_ble_eq_true rfl)⟩) 161 rfl 0 (Nat.le_of_ble_eq_true rfl) ?_
              refine g_astore_n hC dJ9_fixAfterInsertion_161 rfl gRef_q (Nat.le_of_ble_eq_true rfl) [(2, va_rf (lf g9)), (0, .ref mp), (1, .ref x)] rfl 162 rfl ?_
              refine g_aload_n hC dJ9_fixAfterInsertion_162 0 rfl gRef_q 163 rfl ?_
              refine g_calliP (g_S (As := [va_rf (lf g9)]) (rest := []) hC msJ9_colorOf q1065 (met_TM_colorOf_q l G ML t1 Ns kb vl lf rt pa co (lf g9) (fun a ha => (hI.lfm hgm ha).1) hLp_0) ⟨rfl, rfl⟩ ⟨(Nat.le_of_ble_eq_true rfl), (Nat.le_of_ble_eq_true rfl)⟩ rfl (Nat.le_of_ble_eq_true rfl) dJ9_fixAfterInsertion_163 rfl ⟨(Nat.le_of_ble_eq_true rfl), (Nat.le_of_ble_eq_true rfl)⟩) 166 rfl 0 (Nat.le_of_ble_eq_true rfl) ?_
              refine g_if_ne hC dJ9_fixAfterInsertion_166 204 rfl 169 rfl (fun c_42 => ?_) (fun c_42 => ?_)
              · replace c_42 : oK co (lf g9) = true := bB_n0 c_42
                refine g_aload_n hC dJ9_fixAfterInsertion_204 2 rfl gRef_r 205 rfl ?_
                refine g_aload_n hC dJ9_fixAfterInsertion_205 2 rfl gRef_r 206 rfl ?_
                refine g_callqP (g_S (As := [.ref x]) (rest := [.ref x]) hC msJ9_parentOf q1056 (met_TM_parentOf l G ML t1 Ns kb vl lf rt pa co x hx hLp_0) ⟨rfl, rfl⟩ ⟨(Nat.le_of_ble_eq_true rfl), (Nat.le_of_ble_eq_true rfl)⟩ rfl (Nat.le_of_ble_eq_true rfl) dJ9_fixAfterInsertion_206 rfl ⟨(Nat.le_of_ble_eq_true rfl), (Nat.le_of_ble_eq_true rfl)⟩) 209 rfl 0 (Nat.le_of_ble_eq_true rfl) ?_
                refine g_topv (y := .ref p9) (congrArg va_rf (show pa x = some p9 from hp9)) ?_
                refine g_callqP (g_S (As := [.ref p9]) (rest := [.ref x]) hC msJ9_leftOf q1059 (met_TM_leftOf l G ML t1 Ns kb vl lf rt pa co p9 hpm hLp_0) ⟨rfl, rfl⟩ ⟨(Nat.le_of_ble_eq_true rfl), (Nat.le_of_ble_eq_true rfl)⟩ rfl (Nat.le_of_ble_eq_true rfl) dJ9_fixAfterInsertion_209 rfl ⟨(Nat.le_of_ble_eq_true rfl), (Nat.le_of_ble_eq_true rfl)⟩) 212 rfl 0 (Nat.le_of_ble_eq_true rfl) ?_
                refine g_acmp_ne (rx := some x) (ry := lf p9) hC dJ9_fixAfterInsertion_212 225 rfl 215 rfl (fun c_43 => ?_) (fun c_43 => ?_)
                · refine g_aload_n hC dJ9_fixAfterInsertion_225 2 rfl gRef_r 226 rfl ?_
                  refine g_callqP (g_S (As := [.ref x]) (rest := []) hC msJ9_parentOf q1056 (met_TM_parentOf l G ML t1 Ns kb vl lf rt pa co x hx hLp_0) ⟨rfl, rfl⟩ ⟨(Nat.le_of_ble_eq_true rfl), (Nat.le_of_ble_eq_true rfl)⟩ rfl (Nat.le_of_ble_eq_true rfl) dJ9_fixAfterInsertion_226 rfl ⟨(Nat.le_of_ble_eq_true rfl), (Nat.le_of_ble_eq_true rfl)⟩) 229 rfl 0 (Nat.le_of_ble_eq_true rfl) ?_
                  refine g_topv (y := .ref p9) (congrArg va_rf (show pa x = some p9 from hp9)) ?_
                  refine g_iconst hC dJ9_fixAfterInsertion_229 ki_1 230 rfl ?_
                  refine g_callv (g_S (As := [.ref p9, .int 1]) (rest := []) hC msJ9_setColor q1068 (met_TM_setColor l G ML t1 Ns kb vl lf rt pa co p9 true hpm hLp_0) ⟨rfl, rfl⟩ ⟨(Nat.le_of_ble_eq_true rfl), (Nat.le_of_ble_eq_true rfl)⟩ rfl (Nat.le_of_ble_eq_true rfl) dJ9_fixAfterInsertion_230 rfl ⟨(Nat.le_of_ble_eq_true rfl), (Nat.le_of_ble_eq_true rfl)⟩) 0 (Nat.le_of_ble_eq_true rfl) 0 (Nat.le_of_ble_eq_true rfl) 233 rfl (fun M44 k45 hp46 => ?_)
                  obtain ⟨hpd48, hF49, hk50⟩ := hp46
                  refine g_aload_n hC dJ9_fixAfterInsertion_233 2 rfl gRef_r 234 rfl ?_
                  refine g_callqP (g_S (As := [.ref x]) (rest := []) hC msJ9_parentOf q1056 (met_TM_parentOf l G M44 t1 Ns kb vl lf rt pa (va_up co p9 true) x hx hpd48) ⟨rfl, rfl⟩ ⟨(Nat.le_of_ble_eq_true rfl), (Nat.le_of_ble_eq_true rfl)⟩ rfl (Nat.le_of_ble_eq_true rfl) dJ9_fixAfterInsertion_234 rfl ⟨(Nat.le_of_ble_eq_true rfl), (Nat.le_of_ble_eq_true rfl)⟩) 237 rfl 0 (Nat.le_of_ble_eq_true rfl) ?_
                  refine g_topv (y := .ref p9) (congrArg va_rf (show pa x = some p9 from hp9)) ?_
                  refine g_callqP (g_S (As := [.ref p9]) (rest := []) hC msJ9_parentOf q1056 (met_TM_parentOf l G M44 t1 Ns kb vl lf rt pa (va_up co p9 true) p9 hpm hpd48) ⟨rfl, rfl⟩ ⟨(Nat.le_of_ble_eq_true rfl), (Nat.le_of_ble_eq_true rfl)⟩ rfl (Nat.le_of_ble_eq_true rfl) dJ9_fixAfterInsertion_237 rfl ⟨(Nat.le_of_ble_eq_true rfl), (Nat.le_of_ble_eq_true rfl)⟩) 240 rfl 0 (Nat.le_of_ble_eq_true rfl) ?_
                  refine g_topv (y := .ref g9) (congrArg va_rf (show pa p9 = some g9 from hg)) ?_
                  refine g_iconst hC dJ9_fixAfterInsertion_240 ki_0 241 rfl ?_
                  refine g_callv (g_S (As := [.ref g9, .int 0]) (rest := []) hC msJ9_setColor q1068 (met_TM_setColor l G M44 t1 Ns kb vl lf rt pa (va_up co p9 true) g9 false hgm hpd48) ⟨rfl, rfl⟩ ⟨(Nat.le_of_ble_eq_true rfl), (Nat.le_of_ble_eq_true rfl)⟩ rfl (Nat.le_of_ble_eq_true rfl) dJ9_fixAfterInsertion_241 rfl ⟨(Nat.le_of_ble_eq_true rfl), (Nat.le_of_ble_eq_true rfl)⟩) 0 (Nat.le_of_ble_eq_true rfl) 0 (Nat.le_of_ble_eq_true rfl) 244 rfl (fun M51 k52 hp53 => ?_)
                  obtain ⟨hpd55, hF56, hk57⟩ := hp53
                  refine g_aload_n hC dJ9_fixAfterInsertion_244 1 rfl gRef_r 245 rfl ?_
                  refine g_aload_n hC dJ9_fixAfterInsertion_245 2 rfl gRef_r 246 rfl ?_
                  refine g_callqP (g_S (As := [.ref x]) (rest := [.ref mp]) hC msJ9_parentOf q1056 (met_TM_parentOf l G M51 t1 Ns kb vl lf rt pa (va_up (va_up co p9 true) g9 false) x hx hpd55) ⟨rfl, rfl⟩ ⟨(Nat.le_of_ble_eq_true rfl), (Nat.le_of_ble_eq_true rfl)⟩ rfl (Nat.le_of_ble_eq_true rfl) dJ9_fixAfterInsertion_246 rfl ⟨(Nat.le_of_ble_eq_true rfl), (Nat.le_of_ble_eq_true rfl)⟩) 249 rfl 0 (Nat.le_of_ble_eq_true rfl) ?_
                  refine g_topv (y := .ref p9) (congrArg va_rf (show pa x = some p9 from hp9)) ?_
                  refine g_callqP (g_S (As := [.ref p9]) (rest := [.ref mp]) hC msJ9_parentOf q1056 (met_TM_parentOf l G M51 t1 Ns kb vl lf rt pa (va_up (va_up co p9 true) g9 false) p9 hpm hpd55) ⟨rfl, rfl⟩ ⟨(Nat.le_of_ble_eq_true rfl), (Nat.le_of_ble_eq_true rfl)⟩ rfl (Nat.le_of_ble_eq_true rfl) dJ9_fixAfterInsertion_249 rfl ⟨(Nat.le_of_ble_eq_true rfl), (Nat.le_of_ble_eq_true rfl)⟩) 252 rfl 0 (Nat.le_of_ble_eq_true rfl) ?_
                  refine g_topv (y := .ref g9) (congrArg va_rf (show pa p9 = some g9 from hg)) ?_
                  refine g_callv (g_V (As := [.ref g9]) (rest := []) hC mvJ9_rotateLeft q1071 (gOf.of hC.K cI24 (hF56 _ _ _ (hF49 _ _ _ hL_0 (show ¬ (tgE t1.1 t1.2) t0 by (try simp only [ndT, tgE, gT, tgR, ndT9, tg0, Prod.mk.injEq]); first | done | omega | (simp; done) | simp_all)) (show ¬ (tgE t1.1 t1.2) t0 by (try simp only [ndT, tgE, gT, tgR, ndT9, tg0, Prod.mk.injEq]); first | done | omega | (simp; done) | simp_all))) (met_TM_rotL l G M51 mp t0 cm r n mc ks t1 Ns kb vl lf rt pa (va_up (va_up co p9 true) g9 false) rho lo hi g9 p9 hI hgm hrg ht (hF56 _ _ _ (hF49 _ _ _ hL_0 (show ¬ (tgE t1.1 t1.2) t0 by (try simp only [ndT, tgE, gT, tgR, ndT9, tg0, Prod.mk.injEq]); first | done | omega | (simp; done) | simp_all)) (show ¬ (tgE t1.1 t1.2) t0 by (try simp only [ndT, tgE, gT, tgR, ndT9, tg0, Prod.mk.injEq]); first | done | omega | (simp; done) | simp_all)) hpd55) ⟨rfl, rfl⟩ ⟨(Nat.le_of_ble_eq_true rfl), (Nat.le_of_ble_eq_true rfl)⟩ rfl (Nat.le_of_ble_eq_true rfl) dJ9_fixAfterInsertion_252 rfl ⟨(Nat.le_of_ble_eq_true rfl), (Nat.le_of_ble_eq_true rfl)⟩) 0 (Nat.le_of_ble_eq_true rfl) 0 (Nat.le_of_ble_eq_true rfl) 255 rfl (fun M58 k59 hp60 => ?_)
                  obtain ⟨hc62, hpd63, hF64, hk65⟩ := hp60
                  obtain ⟨lf66, elf66⟩ : ∃ z, z = rlL lf pa g9 p9 := ⟨_, rfl⟩
                  obtain ⟨rt66, ert66⟩ : ∃ z, z = rlR lf rt pa g9 p9 := ⟨_, rfl⟩
                  obtain ⟨pa66, epa66⟩ : ∃ z, z = rlP lf pa g9 p9 := ⟨_, rfl⟩
                  obtain ⟨rr66, err66⟩ : ∃ z, z = rlT r pa g9 p9 := ⟨_, rfl⟩
                  obtain ⟨lo66, elo66⟩ : ∃ z, z = va_up lo p9 (lo g9) := ⟨_, rfl⟩
                  obtain ⟨hi66, ehi66⟩ : ∃ z, z = va_up hi g9 (some p9) := ⟨_, rfl⟩
                  rw [← elf66, ← ert66, ← epa66] at hpd63
                  rw [← err66] at hc62
                  have hI66 : tmI rr66 Ns rho lf66 rt66 pa66 lo66 hi66 := by rw [err66, elf66, ert66, epa66, elo66, ehi66]; exact hI.rotL hgm hrg
                  have hf67 : pa66 x = some p9 := by rw [epa66, rlP_o (Ne.symm hgx) (Ne.symm hpx) (fun q => c_43 q.symm)]; exact hp9
                  refine g_goto hC dJ9_fixAfterInsertion_255 5 rfl ?_
                  refine gJ.sub (M' := M58) [1, 2] rfl ?_
                  exact ih x lf66 rt66 pa66 (va_up (va_up co p9 true) g9 false) rr66 lo66 hi66 M58 hI66 hx (Nat.lt_of_lt_of_le (by rw [(fxM_p hp9 c_9), fxM_z hf67 (by rw [va_up_ne _ _ (Ne.symm hgp), va_up_self])]; omega) (Nat.le_of_lt_succ hmu)) hc62 hpd63 (hLF.trans (((gFr.refl.trans (hF49.mono (fun b t h => by obtain ⟨u9, v9⟩ := t; revert h; (try simp only [ndT, tgE, gT, tgR, ndT9, tg0, Prod.mk.injEq]); first | done | omega | (simp; done) | (intro h; simp_all; done)))).trans (hF56.mono (fun b t h => by obtain ⟨u9, v9⟩ := t; revert h; (try simp only [ndT, tgE, gT, tgR, ndT9, tg0, Prod.mk.injEq]); first | done | omega | (simp; done) | (intro h; simp_all; done)))).trans (hF64.mono (fun b t h => by obtain ⟨u9, v9⟩ := t; revert h; (try simp only [ndT, tgE, gT, tgR, ndT9, tg0, Prod.mk.injEq]); first | done | omega | (simp; done) | (intro h; simp_all; done)))))
                · refine g_aload_n hC dJ9_fixAfterInsertion_215 2 rfl gRef_r 216 rfl ?_
                  refine g_callqP (g_S (As := [.ref x]) (rest := []) hC msJ9_parentOf q1056 (met_TM_parentOf l G ML t1 Ns kb vl lf rt pa co x hx hLp_0) ⟨rfl, rfl⟩ ⟨(Nat.le_of_ble_eq_true rfl), (Nat.le_of_ble_eq_true rfl)⟩ rfl (Nat.le_of_ble_eq_true rfl) dJ9_fixAfterInsertion_216 rfl ⟨(Nat.le_of_ble_eq_true rfl), (Nat.le_of_ble_eq_true rfl)⟩) 219 rfl 0 (Nat.le_of_ble_eq_true rfl) ?_
                  refine g_topv (y := .ref p9) (congrArg va_rf (show pa x = some p9 from hp9)) ?_
                  refine g_astore_n hC dJ9_fixAfterInsertion_219 rfl gRef_r (Nat.le_of_ble_eq_true rfl) [(1, .ref p9), (2, va_rf (lf g9)), (0, .ref mp)] rfl 220 rfl ?_
                  refine g_aload_n hC dJ9_fixAfterInsertion_220 2 rfl gRef_r 221 rfl ?_
                  refine g_aload_n hC dJ9_fixAfterInsertion_221 0 rfl gRef_r 222 rfl ?_
                  refine g_callv (g_V (As := [.ref p9]) (rest := []) hC mvJ9_rotateRight q1075 (gOf.of hC.K cI24 hL_0) (met_TM_rotR l G ML mp t0 cm r n mc ks t1 Ns kb vl lf rt pa co rho lo hi p9 x hI hpm c_43.symm ht hL_0 hLp_0) ⟨rfl, rfl⟩ ⟨(Nat.le_of_ble_eq_true rfl), (Nat.le_of_ble_eq_true rfl)⟩ rfl (Nat.le_of_ble_eq_true rfl) dJ9_fixAfterInsertion_222 rfl ⟨(Nat.le_of_ble_eq_true rfl), (Nat.le_of_ble_eq_true rfl)⟩) 0 (Nat.le_of_ble_eq_true rfl) 0 (Nat.le_of_ble_eq_true rfl) 225 rfl (fun M68 k69 hp70 => ?_)
                  obtain ⟨hc72, hpd73, hF74, hk75⟩ := hp70
                  obtain ⟨lf76, elf76⟩ : ∃ z, z = rlR rt lf pa p9 x := ⟨_, rfl⟩
                  obtain ⟨rt76, ert76⟩ : ∃ z, z = rlL rt pa p9 x := ⟨_, rfl⟩
                  obtain ⟨pa76, epa76⟩ : ∃ z, z = rlP rt pa p9 x := ⟨_, rfl⟩
                  obtain ⟨rr76, err76⟩ : ∃ z, z = rlT r pa p9 x := ⟨_, rfl⟩
                  obtain ⟨lo76, elo76⟩ : ∃ z, z = va_up lo p9 (some x) := ⟨_, rfl⟩
                  obtain ⟨hi76, ehi76⟩ : ∃ z, z = va_up hi x (hi p9) := ⟨_, rfl⟩
                  rw [← elf76, ← ert76, ← epa76] at hpd73
                  rw [← err76] at hc72
                  have hI76 : tmI rr76 Ns rho lf76 rt76 pa76 lo76 hi76 := by rw [err76, elf76, ert76, epa76, elo76, ehi76]; exact hI.rotR hpm c_43.symm
                  have hf77 : pa76 p9 = some x := by rw [epa76]; exact rlP_p
                  have hf78 : pa76 x = some g9 := by rw [epa76, rlP_q (Ne.symm hpx)]; exact hg
                  have hf79 : rt76 g9 = some x := by rw [ert76]; exact rlL_g hg (hrg) hgx
                  refine g_aload_n hC dJ9_fixAfterInsertion_225 0 rfl gRef_r 226 rfl ?_
                  refine g_callqP (g_S (As := [.ref p9]) (rest := []) hC msJ9_parentOf q1056 (met_TM_parentOf l G M68 t1 Ns kb vl lf76 rt76 pa76 co p9 hpm hpd73) ⟨rfl, rfl⟩ ⟨(Nat.le_of_ble_eq_true rfl), (Nat.le_of_ble_eq_true rfl)⟩ rfl (Nat.le_of_ble_eq_true rfl) dJ9_fixAfterInsertion_226 rfl ⟨(Nat.le_of_ble_eq_true rfl), (Nat.le_of_ble_eq_true rfl)⟩) 229 rfl 0 (Nat.le_of_ble_eq_true rfl) ?_
                  refine g_topv (y := .ref x) (congrArg va_rf (show pa76 p9 = some x from hf77)) ?_
                  refine g_iconst hC dJ9_fixAfterInsertion_229 ki_1 230 rfl ?_
                  refine g_callv (g_S (As := [.ref x, .int 1]) (rest := []) hC msJ9_setColor q1068 (met_TM_setColor l G M68 t1 Ns kb vl lf76 rt76 pa76 co x true hx hpd73) ⟨rfl, rfl⟩ ⟨(Nat.le_of_ble_eq_true rfl), (Nat.le_of_ble_eq_true rfl)⟩ rfl (Nat.le_of_ble_eq_true rfl) dJ9_fixAfterInsertion_230 rfl ⟨(Nat.le_of_ble_eq_true rfl), (Nat.le_of_ble_eq_true rfl)⟩) 0 (Nat.le_of_ble_eq_true rfl) 0 (Nat.le_of_ble_eq_true rfl) 233 rfl (fun M80 k81 hp82 => ?_)
                  obtain ⟨hpd84, hF85, hk86⟩ := hp82
                  refine g_aload_n hC dJ9_fixAfterInsertion_233 0 rfl gRef_r 234 rfl ?_
                  refine g_callqP (g_S (As := [.ref p9]) (rest := []) hC msJ9_parentOf q1056 (met_TM_parentOf l G M80 t1 Ns kb vl lf76 rt76 pa76 (va_up co x true) p9 hpm hpd84) ⟨rfl, rfl⟩ ⟨(Nat.le_of_ble_eq_true rfl), (Nat.le_of_ble_eq_true rfl)⟩ rfl (Nat.le_of_ble_eq_true rfl) dJ9_fixAfterInsertion_234 rfl ⟨(Nat.le_of_ble_eq_true rfl), (Nat.le_of_ble_eq_true rfl)⟩) 237 rfl 0 (Nat.le_of_ble_eq_true rfl) ?_
                  refine g_topv (y := .ref x) (congrArg va_rf (show pa76 p9 = some x from hf77)) ?_
                  refine g_callqP (g_S (As := [.ref x]) (rest := []) hC msJ9_parentOf q1056 (met_TM_parentOf l G M80 t1 Ns kb vl lf76 rt76 pa76 (va_up co x true) x hx hpd84) ⟨rfl, rfl⟩ ⟨(Nat.le_of_ble_eq_true rfl), (Nat.le_of_ble_eq_true rfl)⟩ rfl (Nat.le_of_ble_eq_true rfl) dJ9_fixAfterInsertion_237 rfl ⟨(Nat.le_of_ble_eq_true rfl), (Nat.le_of_ble_eq_true rfl)⟩) 240 rfl 0 (Nat.le_of_ble_eq_true rfl) ?_
                  refine g_topv (y := .ref g9) (congrArg va_rf (show pa76 x = some g9 from hf78)) ?_
                  refine g_iconst hC dJ9_fixAfterInsertion_240 ki_0 241 rfl ?_
                  refine g_callv (g_S (As := [.ref g9, .int 0]) (rest := []) hC msJ9_setColor q1068 (met_TM_setColor l G M80 t1 Ns kb vl lf76 rt76 pa76 (va_up co x true) g9 false hgm hpd84) ⟨rfl, rfl⟩ ⟨(Nat.le_of_ble_eq_true rfl), (Nat.le_of_ble_eq_true rfl)⟩ rfl (Nat.le_of_ble_eq_true rfl) dJ9_fixAfterInsertion_241 rfl ⟨(Nat.le_of_ble_eq_true rfl), (Nat.le_of_ble_eq_true rfl)⟩) 0 (Nat.le_of_ble_eq_true rfl) 0 (Nat.le_of_ble_eq_true rfl) 244 rfl (fun M87 k88 hp89 => ?_)
                  obtain ⟨hpd91, hF92, hk93⟩ := hp89
                  have hH94 := (hF92 _ _ _ (hF85 _ _ _ hc72 (show ¬ (tgE t1.1 t1.2) t0 by (try simp only [ndT, tgE, gT, tgR, ndT9, tg0, Prod.mk.injEq]); first | done | omega | (simp; done) | simp_all)) (show ¬ (tgE t1.1 t1.2) t0 by (try simp only [ndT, tgE, gT, tgR, ndT9, tg0, Prod.mk.injEq]); first | done | omega | (simp; done) | simp_all))
                  refine g_aload_n hC dJ9_fixAfterInsertion_244 2 rfl gRef_r 245 rfl ?_
                  refine g_aload_n hC dJ9_fixAfterInsertion_245 0 rfl gRef_r 246 rfl ?_
                  refine g_callqP (g_S (As := [.ref p9]) (rest := [.ref mp]) hC msJ9_parentOf q1056 (met_TM_parentOf l G M87 t1 Ns kb vl lf76 rt76 pa76 (va_up (va_up co x true) g9 false) p9 hpm hpd91) ⟨rfl, rfl⟩ ⟨(Nat.le_of_ble_eq_true rfl), (Nat.le_of_ble_eq_true rfl)⟩ rfl (Nat.le_of_ble_eq_true rfl) dJ9_fixAfterInsertion_246 rfl ⟨(Nat.le_of_ble_eq_true rfl), (Nat.le_of_ble_eq_true rfl)⟩) 249 rfl 0 (Nat.le_of_ble_eq_true rfl) ?_
                  refine g_topv (y := .ref x) (congrArg va_rf (show pa76 p9 = some x from hf77)) ?_
                  refine g_callqP (g_S (As := [.ref x]) (rest := [.ref mp]) hC msJ9_parentOf q1056 (met_TM_parentOf l G M87 t1 Ns kb vl lf76 rt76 pa76 (va_up (va_up co x true) g9 false) x hx hpd91) ⟨rfl, rfl⟩ ⟨(Nat.le_of_ble_eq_true rfl), (Nat.le_of_ble_eq_true rfl)⟩ rfl (Nat.le_of_ble_eq_true rfl) dJ9_fixAfterInsertion_249 rfl ⟨(Nat.le_of_ble_eq_true rfl), (Nat.le_of_ble_eq_true rfl)⟩) 252 rfl 0 (Nat.le_of_ble_eq_true rfl) ?_
                  refine g_topv (y := .ref g9) (congrArg va_rf (show pa76 x = some g9 from hf78)) ?_
                  refine g_callv (g_V (As := [.ref g9]) (rest := []) hC mvJ9_rotateLeft q1071 (gOf.of hC.K cI24 hH94) (met_TM_rotL l G M87 mp t0 cm rr76 n mc ks t1 Ns kb vl lf76 rt76 pa76 (va_up (va_up co x true) g9 false) rho lo76 hi76 g9 x hI76 hgm hf79 ht hH94 hpd91) ⟨rfl, rfl⟩ ⟨(Nat.le_of_ble_eq_true rfl), (Nat.le_of_ble_eq_true rfl)⟩ rfl (Nat.le_of_ble_eq_true rfl) dJ9_fixAfterInsertion_252 rfl ⟨(Nat.le_of_ble_eq_true rfl), (Nat.le_of_ble_eq_true rfl)⟩) 0 (Nat.le_of_ble_eq_true rfl) 0 (Nat.le_of_ble_eq_true rfl) 255 rfl (fun M95 k96 hp97 => ?_)
                  obtain ⟨hc99, hpd100, hF101, hk102⟩ := hp97
                  obtain ⟨lf103, elf103⟩ : ∃ z, z = rlL lf76 pa76 g9 x := ⟨_, rfl⟩
                  obtain ⟨rt103, ert103⟩ : ∃ z, z = rlR lf76 rt76 pa76 g9 x := ⟨_, rfl⟩
                  obtain ⟨pa103, epa103⟩ : ∃ z, z = rlP lf76 pa76 g9 x := ⟨_, rfl⟩
                  obtain ⟨rr103, err103⟩ : ∃ z, z = rlT rr76 pa76 g9 x := ⟨_, rfl⟩
                  obtain ⟨lo103, elo103⟩ : ∃ z, z = va_up lo76 x (lo76 g9) := ⟨_, rfl⟩
                  obtain ⟨hi103, ehi103⟩ : ∃ z, z = va_up hi76 g9 (some x) := ⟨_, rfl⟩
                  rw [← elf103, ← ert103, ← epa103] at hpd100
                  rw [← err103] at hc99
                  have hI103 : tmI rr103 Ns rho lf103 rt103 pa103 lo103 hi103 := by rw [err103, elf103, ert103, epa103, elo103, ehi103]; exact hI76.rotL hgm hf79
                  have hf104 : pa103 p9 = some x := by rw [epa103, rlP_o (Ne.symm hgp) hpx (fun q => hI76.lr hx q (by rw [ert76]; exact rlL_q))]; exact hf77
                  refine g_goto hC dJ9_fixAfterInsertion_255 5 rfl ?_
                  refine gJ.sub (M' := M95) [2, 0] rfl ?_
                  exact ih p9 lf103 rt103 pa103 (va_up (va_up co x true) g9 false) rr103 lo103 hi103 M95 hI103 hpm (Nat.lt_of_lt_of_le (by rw [(fxM_p hp9 c_9), fxM_z hf104 (by rw [va_up_ne _ _ (Ne.symm hgx), va_up_self])]; omega) (Nat.le_of_lt_succ hmu)) hc99 hpd100 (hLF.trans ((((gFr.refl.trans (hF74.mono (fun b t h => by obtain ⟨u9, v9⟩ := t; revert h; (try simp only [ndT, tgE, gT, tgR, ndT9, tg0, Prod.mk.injEq]); first | done | omega | (simp; done) | (intro h; simp_all; done)))).trans (hF85.mono (fun b t h => by obtain ⟨u9, v9⟩ := t; revert h; (try simp only [ndT, tgE, gT, tgR, ndT9, tg0, Prod.mk.injEq]); first | done | omega | (simp; done) | (intro h; simp_all; done)))).trans (hF92.mono (fun b t h => by obtain ⟨u9, v9⟩ := t; revert h; (try simp only [ndT, tgE, gT, tgR, ndT9, tg0, Prod.mk.injEq]); first | done | omega | (simp; done) | (intro h; simp_all; done)))).trans (hF101.mono (fun b t h => by obtain ⟨u9, v9⟩ := t; revert h; (try simp only [ndT, tgE, gT, tgR, ndT9, tg0, Prod.mk.injEq]); first | done | omega | (simp; done) | (intro h; simp_all; done)))))
              · replace c_42 : oK co (lf g9) = false := bB_e0 c_42
                obtain ⟨y9, hy9⟩ : ∃ y9, lf g9 = some y9 := by cases q : lf g9 with | none => rw [q] at c_42; cases (show true = false from c_42) | some y => exact ⟨y, rfl⟩
                have hym : y9 ∈ Ns := (hI.lfm hgm hy9).1
                refine g_lv (lv' := [(2, .ref y9), (0, .ref mp), (1, .ref x)]) (by rw [hy9]; rfl) ?_
                refine g_aload_n hC dJ9_fixAfterInsertion_169 2 rfl gRef_r 170 rfl ?_
                refine g_callqP (g_S (As := [.ref x]) (rest := []) hC msJ9_parentOf q1056 (met_TM_parentOf l G ML t1 Ns kb vl lf rt pa co x hx hLp_0) ⟨rfl, rfl⟩ ⟨(Nat.le_of_ble_eq_true rfl), (Nat.le_of_ble_eq_true rfl)⟩ rfl (Nat.le_of_ble_eq_true rfl) dJ9_fixAfterInsertion_170 rfl ⟨(Nat.le_of_ble_eq_true rfl), (Nat.le_of_ble_eq_true rfl)⟩) 173 rfl 0 (Nat.le_of_ble_eq_true rfl) ?_
                refine g_topv (y := .ref p9) (congrArg va_rf (show pa x = some p9 from hp9)) ?_
                refine g_iconst hC dJ9_fixAfterInsertion_173 ki_1 174 rfl ?_
                refine g_callv (g_S (As := [.ref p9, .int 1]) (rest := []) hC msJ9_setColor q1068 (met_TM_setColor l G ML t1 Ns kb vl lf rt pa co p9 true hpm hLp_0) ⟨rfl, rfl⟩ ⟨(Nat.le_of_ble_eq_true rfl), (Nat.le_of_ble_eq_true rfl)⟩ rfl (Nat.le_of_ble_eq_true rfl) dJ9_fixAfterInsertion_174 rfl ⟨(Nat.le_of_ble_eq_true rfl), (Nat.le_of_ble_eq_true rfl)⟩) 0 (Nat.le_of_ble_eq_true rfl) 0 (Nat.le_of_ble_eq_true rfl) 177 rfl (fun M105 k106 hp107 => ?_)
                obtain ⟨hpd109, hF110, hk111⟩ := hp107
                refine g_aload_n hC dJ9_fixAfterInsertion_177 0 rfl gRef_r 178 rfl ?_
                refine g_iconst hC dJ9_fixAfterInsertion_178 ki_1 179 rfl ?_
                refine g_callv (g_S (As := [.ref y9, .int 1]) (rest := []) hC msJ9_setColor q1068 (met_TM_setColor l G M105 t1 Ns kb vl lf rt pa (va_up co p9 true) y9 true hym hpd109) ⟨rfl, rfl⟩ ⟨(Nat.le_of_ble_eq_true rfl), (Nat.le_of_ble_eq_true rfl)⟩ rfl (Nat.le_of_ble_eq_true rfl) dJ9_fixAfterInsertion_179 rfl ⟨(Nat.le_of_ble_eq_true rfl), (Nat.le_of_ble_eq_true rfl)⟩) 0 (Nat.le_of_ble_eq_true rfl) 0 (Nat.le_of_ble_eq_true rfl) 182 rfl (fun M112 k113 hp114 => ?_)
                obtain ⟨hpd116, hF117, hk118⟩ := hp114
                refine g_aload_n hC dJ9_fixAfterInsertion_182 2 rfl gRef_r 183 rfl ?_
                refine g_callqP (g_S (As := [.ref x]) (rest := []) hC msJ9_parentOf q1056 (met_TM_parentOf l G M112 t1 Ns kb vl lf rt pa (va_up (va_up co p9 true) y9 true) x hx hpd116) ⟨rfl, rfl⟩ ⟨(Nat.le_of_ble_eq_true rfl), (Nat.le_of_ble_eq_true rfl)⟩ rfl (Nat.le_of_ble_eq_true rfl) dJ9_fixAfterInsertion_183 rfl ⟨(Nat.le_of_ble_eq_true rfl), (Nat.le_of_ble_eq_true rfl)⟩) 186 rfl 0 (Nat.le_of_ble_eq_true rfl) ?_
                refine g_topv (y := .ref p9) (congrArg va_rf (show pa x = some p9 from hp9)) ?_
                refine g_callqP (g_S (As := [.ref p9]) (rest := []) hC msJ9_parentOf q1056 (met_TM_parentOf l G M112 t1 Ns kb vl lf rt pa (va_up (va_up co p9 true) y9 true) p9 hpm hpd116) ⟨rfl, rfl⟩ ⟨(Nat.le_of_ble_eq_true rfl), (Nat.le_of_ble_eq_true rfl)⟩ rfl (Nat.le_of_ble_eq_true rfl) dJ9_fixAfterInsertion_186 rfl ⟨(Nat.le_of_ble_eq_true rfl), (Nat.le_of_ble_eq_true rfl)⟩) 189 rfl 0 (Nat.le_of_ble_eq_true rfl) ?_
                refine g_topv (y := .ref g9) (congrArg va_rf (show pa p9 = some g9 from hg)) ?_
                refine g_iconst hC dJ9_fixAfterInsertion_189 ki_0 190 rfl ?_
                refine g_callv (g_S (As := [.ref g9, .int 0]) (rest := []) hC msJ9_setColor q1068 (met_TM_setColor l G M112 t1 Ns kb vl lf rt pa (va_up (va_up co p9 true) y9 true) g9 false hgm hpd116) ⟨rfl, rfl⟩ ⟨(Nat.le_of_ble_eq_true rfl), (Nat.le_of_ble_eq_true rfl)⟩ rfl (Nat.le_of_ble_eq_true rfl) dJ9_fixAfterInsertion_190 rfl ⟨(Nat.le_of_ble_eq_true rfl), (Nat.le_of_ble_eq_true rfl)⟩) 0 (Nat.le_of_ble_eq_true rfl) 0 (Nat.le_of_ble_eq_true rfl) 193 rfl (fun M119 k120 hp121 => ?_)
                obtain ⟨hpd123, hF124, hk125⟩ := hp121
                have hH126 := (hF124 _ _ _ (hF117 _ _ _ (hF110 _ _ _ hL_0 (show ¬ (tgE t1.1 t1.2) t0 by (try simp only [ndT, tgE, gT, tgR, ndT9, tg0, Prod.mk.injEq]); first | done | omega | (simp; done) | simp_all)) (show ¬ (tgE t1.1 t1.2) t0 by (try simp only [ndT, tgE, gT, tgR, ndT9, tg0, Prod.mk.injEq]); first | done | omega | (simp; done) | simp_all)) (show ¬ (tgE t1.1 t1.2) t0 by (try simp only [ndT, tgE, gT, tgR, ndT9, tg0, Prod.mk.injEq]); first | done | omega | (simp; done) | simp_all))
                refine g_aload_n hC dJ9_fixAfterInsertion_193 2 rfl gRef_r 194 rfl ?_
                refine g_callqP (g_S (As := [.ref x]) (rest := []) hC msJ9_parentOf q1056 (met_TM_parentOf l G M119 t1 Ns kb vl lf rt pa (va_up (va_up (va_up co p9 true) y9 true) g9 false) x hx hpd123) ⟨rfl, rfl⟩ ⟨(Nat.le_of_ble_eq_true rfl), (Nat.le_of_ble_eq_true rfl)⟩ rfl (Nat.le_of_ble_eq_true rfl) dJ9_fixAfterInsertion_194 rfl ⟨(Nat.le_of_ble_eq_true rfl), (Nat.le_of_ble_eq_true rfl)⟩) 197 rfl 0 (Nat.le_of_ble_eq_true rfl) ?_
                refine g_topv (y := .ref p9) (congrArg va_rf (show pa x = some p9 from hp9)) ?_
                refine g_callqP (g_S (As := [.ref p9]) (rest := []) hC msJ9_parentOf q1056 (met_TM_parentOf l G M119 t1 Ns kb vl lf rt pa (va_up (va_up (va_up co p9 true) y9 true) g9 false) p9 hpm hpd123) ⟨rfl, rfl⟩ ⟨(Nat.le_of_ble_eq_true rfl), (Nat.le_of_ble_eq_true rfl)⟩ rfl (Nat.le_of_ble_eq_true rfl) dJ9_fixAfterInsertion_197 rfl ⟨(Nat.le_of_ble_eq_true rfl), (Nat.le_of_ble_eq_true rfl)⟩) 200 rfl 0 (Nat.le_of_ble_eq_true rfl) ?_
                refine g_topv (y := .ref g9) (congrArg va_rf (show pa p9 = some g9 from hg)) ?_
                refine g_astore_n hC dJ9_fixAfterInsertion_200 rfl gRef_r (Nat.le_of_ble_eq_true rfl) [(1, .ref g9), (2, .ref y9), (0, .ref mp)] rfl 201 rfl ?_
                refine g_goto hC dJ9_fixAfterInsertion_201 255 rfl ?_
                refine g_goto hC dJ9_fixAfterInsertion_255 5 rfl ?_
                refine gJ.sub (M' := M119) [2, 0] rfl ?_
                exact ih g9 lf rt pa (va_up (va_up (va_up co p9 true) y9 true) g9 false) r lo hi M119 hI hgm (Nat.lt_of_lt_of_le (by rw [(fxM_p hp9 c_9)]; have h1 := hI.wP hx hp9; have h2 := hI.wP hpm hg; have h3 := tmw_le (Ns := Ns) (ρ := rho) (lo := lo) (hi := hi) (a := g9); exact Nat.lt_of_le_of_lt fxM_le (by omega)) (Nat.le_of_lt_succ hmu)) hH126 hpd123 (hLF.trans (((gFr.refl.trans (hF110.mono (fun b t h => by obtain ⟨u9, v9⟩ := t; revert h; (try simp only [ndT, tgE, gT, tgR, ndT9, tg0, Prod.mk.injEq]); first | done | omega | (simp; done) | (intro h; simp_all; done)))).trans (hF117.mono (fun b t h => by obtain ⟨u9, v9⟩ := t; revert h; (try simp only [ndT, tgE, gT, tgR, ndT9, tg0, Prod.mk.injEq]); first | done | omega | (simp; done) | (intro h; simp_all; done)))).trans (hF124.mono (fun b t h => by obtain ⟨u9, v9⟩ := t; revert h; (try simp only [ndT, tgE, gT, tgR, ndT9, tg0, Prod.mk.injEq]); first | done | omega | (simp; done) | (intro h; simp_all; done)))))
            · refine g_aload_n hC dJ9_fixAfterInsertion_44 1 rfl gRef_r 45 rfl ?_
              refine g_callqP (g_S (As := [.ref x]) (rest := []) hC msJ9_parentOf q1056 (met_TM_parentOf l G ML t1 Ns kb vl lf rt pa co x hx hLp_0) ⟨rfl, rfl⟩ ⟨(Nat.le_of_ble_eq_true rfl), (Nat.le_of_ble_eq_true rfl)⟩ rfl (Nat.le_of_ble_eq_true rfl) dJ9_fixAfterInsertion_45 rfl ⟨(Nat.le_of_ble_eq_true rfl), (Nat.le_of_ble_eq_true rfl)⟩) 48 rfl 0 (Nat.le_of_ble_eq_true rfl) ?_
              refine g_topv (y := .ref p9) (congrArg va_rf (show pa x = some p9 from hp9)) ?_
              refine g_callqP (g_S (As := [.ref p9]) (rest := []) hC msJ9_parentOf q1056 (met_TM_parentOf l G ML t1 Ns kb vl lf rt pa co p9 hpm hLp_0) ⟨rfl, rfl⟩ ⟨(Nat.le_of_ble_eq_true rfl), (Nat.le_of_ble_eq_true rfl)⟩ rfl (Nat.le_of_ble_eq_true rfl) dJ9_fixAfterInsertion_48 rfl ⟨(Nat.le_of_ble_eq_true rfl), (Nat.le_of_ble_eq_true rfl)⟩) 51 rfl 0 (Nat.le_of_ble_eq_true rfl) ?_
              refine g_topv (y := .ref g9) (congrArg va_rf (show pa p9 = some g9 from hg)) ?_
              refine g_callqP (g_S (As := [.ref g9]) (rest := []) hC msJ9_rightOf q1062 (met_TM_rightOf l G ML t1 Ns kb vl lf rt pa co g9 hgm hLp_0) ⟨rfl, rfl⟩ ⟨(Nat.le_of_ble_eq_true rfl), (Nat.le_of_ble_eq_true rfl)⟩ rfl (Nat.le_of_ble_eq_true rfl) dJ9_fixAfterInsertion_51 rfl ⟨(Nat.le_of_ble_eq_true rfl), (Nat.le_of_ble_eq_true rfl)⟩) 54 rfl 0 (Nat.le_of_ble_eq_true rfl) ?_
              refine g_astore_n hC dJ9_fixAfterInsertion_54 rfl gRef_q (Nat.le_of_ble_eq_true rfl) [(2, va_rf (rt g9)), (0, .ref mp), (1, .ref x)] rfl 55 rfl ?_
              refine g_aload_n hC dJ9_fixAfterInsertion_55 0 rfl gRef_q 56 rfl ?_
              refine g_calliP (g_S (As := [va_rf (rt g9)]) (rest := []) hC msJ9_colorOf q1065 (met_TM_colorOf_q l G ML t1 Ns kb vl lf rt pa co (rt g9) (fun a ha => (hI.rtm hgm ha).1) hLp_0) ⟨rfl, rfl⟩ ⟨(Nat.le_of_ble_eq_true rfl), (Nat.le_of_ble_eq_true rfl)⟩ rfl (Nat.le_of_ble_eq_true rfl) dJ9_fixAfterInsertion_56 rfl ⟨(Nat.le_of_ble_eq_true rfl), (Nat.le_of_ble_eq_true rfl)⟩) 59 rfl 0 (Nat.le_of_ble_eq_true rfl) ?_
              refine g_if_ne hC dJ9_fixAfterInsertion_59 97 rfl 62 rfl (fun c_127 => ?_) (fun c_127 => ?_)
              · replace c_127 : oK co (rt g9) = true := bB_n0 c_127
                refine g_aload_n hC dJ9_fixAfterInsertion_97 2 rfl gRef_r 98 rfl ?_
                refine g_aload_n hC dJ9_fixAfterInsertion_98 2 rfl gRef_r 99 rfl ?_
                refine g_callqP (g_S (As := [.ref x]) (rest := [.ref x]) hC msJ9_parentOf q1056 (met_TM_parentOf l G ML t1 Ns kb vl lf rt pa co x hx hLp_0) ⟨rfl, rfl⟩ ⟨(Nat.le_of_ble_eq_true rfl), (Nat.le_of_ble_eq_true rfl)⟩ rfl (Nat.le_of_ble_eq_true rfl) dJ9_fixAfterInsertion_99 rfl ⟨(Nat.le_of_ble_eq_true rfl), (Nat.le_of_ble_eq_true rfl)⟩) 102 rfl 0 (Nat.le_of_ble_eq_true rfl) ?_
                refine g_topv (y := .ref p9) (congrArg va_rf (show pa x = some p9 from hp9)) ?_
                refine g_callqP (g_S (As := [.ref p9]) (rest := [.ref x]) hC msJ9_rightOf q1062 (met_TM_rightOf l G ML t1 Ns kb vl lf rt pa co p9 hpm hLp_0) ⟨rfl, rfl⟩ ⟨(Nat.le_of_ble_eq_true rfl), (Nat.le_of_ble_eq_true rfl)⟩ rfl (Nat.le_of_ble_eq_true rfl) dJ9_fixAfterInsertion_102 rfl ⟨(Nat.le_of_ble_eq_true rfl), (Nat.le_of_ble_eq_true rfl)⟩) 105 rfl 0 (Nat.le_of_ble_eq_true rfl) ?_
                refine g_acmp_ne (rx := some x) (ry := rt p9) hC dJ9_fixAfterInsertion_105 118 rfl 108 rfl (fun c_128 => ?_) (fun c_128 => ?_)
                · refine g_aload_n hC dJ9_fixAfterInsertion_118 2 rfl gRef_r 119 rfl ?_
                  refine g_callqP (g_S (As := [.ref x]) (rest := []) hC msJ9_parentOf q1056 (met_TM_parentOf l G ML t1 Ns kb vl lf rt pa co x hx hLp_0) ⟨rfl, rfl⟩ ⟨(Nat.le_of_ble_eq_true rfl), (Nat.le_of_ble_eq_true rfl)⟩ rfl (Nat.le_of_ble_eq_true rfl) dJ9_fixAfterInsertion_119 rfl ⟨(Nat.le_of_ble_eq_true rfl), (Nat.le_of_ble_eq_true rfl)⟩) 122 rfl 0 (Nat.le_of_ble_eq_true rfl) ?_
                  refine g_topv (y := .ref p9) (congrArg va_rf (show pa x = some p9 from hp9)) ?_
                  refine g_iconst hC dJ9_fixAfterInsertion_122 ki_1 123 rfl ?_
                  refine g_callv (g_S (As := [.ref p9, .int 1]) (rest := []) hC msJ9_setColor q1068 (met_TM_setColor l G ML t1 Ns kb vl lf rt pa co p9 true hpm hLp_0) ⟨rfl, rfl⟩ ⟨(Nat.le_of_ble_eq_true rfl), (Nat.le_of_ble_eq_true rfl)⟩ rfl (Nat.le_of_ble_eq_true rfl) dJ9_fixAfterInsertion_123 rfl ⟨(Nat.le_of_ble_eq_true rfl), (Nat.le_of_ble_eq_true rfl)⟩) 0 (Nat.le_of_ble_eq_true rfl) 0 (Nat.le_of_ble_eq_true rfl) 126 rfl (fun M129 k130 hp131 => ?_)
                  obtain ⟨hpd133, hF134, hk135⟩ := hp131
                  refine g_aload_n hC dJ9_fixAfterInsertion_126 2 rfl gRef_r 127 rfl ?_
                  refine g_callqP (g_S (As := [.ref x]) (rest := []) hC msJ9_parentOf q1056 (met_TM_parentOf l G M129 t1 Ns kb vl lf rt pa (va_up co p9 true) x hx hpd133) ⟨rfl, rfl⟩ ⟨(Nat.le_of_ble_eq_true rfl), (Nat.le_of_ble_eq_true rfl)⟩ rfl (Nat.le_of_ble_eq_true rfl) dJ9_fixAfterInsertion_127 rfl ⟨(Nat.le_of_ble_eq_true rfl), (Nat.le_of_ble_eq_true rfl)⟩) 130 rfl 0 (Nat.le_of_ble_eq_true rfl) ?_
                  refine g_topv (y := .ref p9) (congrArg va_rf (show pa x = some p9 from hp9)) ?_
                  refine g_callqP (g_S (As := [.ref p9]) (rest := []) hC msJ9_parentOf q1056 (met_TM_parentOf l G M129 t1 Ns kb vl lf rt pa (va_up co p9 true) p9 hpm hpd133) ⟨rfl, rfl⟩ ⟨(Nat.le_of_ble_eq_true rfl), (Nat.le_of_ble_eq_true rfl)⟩ rfl (Nat.le_of_ble_eq_true rfl) dJ9_fixAfterInsertion_130 rfl ⟨(Nat.le_of_ble_eq_true rfl), (Nat.le_of_ble_eq_true rfl)⟩) 133 rfl 0 (Nat.le_of_ble_eq_true rfl) ?_
                  refine g_topv (y := .ref g9) (congrArg va_rf (show pa p9 = some g9 from hg)) ?_
                  refine g_iconst hC dJ9_fixAfterInsertion_133 ki_0 134 rfl ?_
                  refine g_callv (g_S (As := [.ref g9, .int 0]) (rest := []) hC msJ9_setColor q1068 (met_TM_setColor l G M129 t1 Ns kb vl lf rt pa (va_up co p9 true) g9 false hgm hpd133) ⟨rfl, rfl⟩ ⟨(Nat.le_of_ble_eq_true rfl), (Nat.le_of_ble_eq_true rfl)⟩ rfl (Nat.le_of_ble_eq_true rfl) dJ9_fixAfterInsertion_134 rfl ⟨(Nat.le_of_ble_eq_true rfl), (Nat.le_of_ble_eq_true rfl)⟩) 0 (Nat.le_of_ble_eq_true rfl) 0 (Nat.le_of_ble_eq_true rfl) 137 rfl (fun M136 k137 hp138 => ?_)
                  obtain ⟨hpd140, hF141, hk142⟩ := hp138
                  refine g_aload_n hC dJ9_fixAfterInsertion_137 1 rfl gRef_r 138 rfl ?_
                  refine g_aload_n hC dJ9_fixAfterInsertion_138 2 rfl gRef_r 139 rfl ?_
                  refine g_callqP (g_S (As := [.ref x]) (rest := [.ref mp]) hC msJ9_parentOf q1056 (met_TM_parentOf l G M136 t1 Ns kb vl lf rt pa (va_up (va_up co p9 true) g9 false) x hx hpd140) ⟨rfl, rfl⟩ ⟨(Nat.le_of_ble_eq_true rfl), (Nat.le_of_ble_eq_true rfl)⟩ rfl (Nat.le_of_ble_eq_true rfl) dJ9_fixAfterInsertion_139 rfl ⟨(Nat.le_of_ble_eq_true rfl), (Nat.le_of_ble_eq_true rfl)⟩) 142 rfl 0 (Nat.le_of_ble_eq_true rfl) ?_
                  refine g_topv (y := .ref p9) (congrArg va_rf (show pa x = some p9 from hp9)) ?_
                  refine g_callqP (g_S (As := [.ref p9]) (rest := [.ref mp]) hC msJ9_parentOf q1056 (met_TM_parentOf l G M136 t1 Ns kb vl lf rt pa (va_up (va_up co p9 true) g9 false) p9 hpm hpd140) ⟨rfl, rfl⟩ ⟨(Nat.le_of_ble_eq_true rfl), (Nat.le_of_ble_eq_true rfl)⟩ rfl (Nat.le_of_ble_eq_true rfl) dJ9_fixAfterInsertion_142 rfl ⟨(Nat.le_of_ble_eq_true rfl), (Nat.le_of_ble_eq_true rfl)⟩) 145 rfl 0 (Nat.le_of_ble_eq_true rfl) ?_
                  refine g_topv (y := .ref g9) (congrArg va_rf (show pa p9 = some g9 from hg)) ?_
                  refine g_callv (g_V (As := [.ref g9]) (rest := []) hC mvJ9_rotateRight q1075 (gOf.of hC.K cI24 (hF141 _ _ _ (hF134 _ _ _ hL_0 (show ¬ (tgE t1.1 t1.2) t0 by (try simp only [ndT, tgE, gT, tgR, ndT9, tg0, Prod.mk.injEq]); first | done | omega | (simp; done) | simp_all)) (show ¬ (tgE t1.1 t1.2) t0 by (try simp only [ndT, tgE, gT, tgR, ndT9, tg0, Prod.mk.injEq]); first | done | omega | (simp; done) | simp_all))) (met_TM_rotR l G M136 mp t0 cm r n mc ks t1 Ns kb vl lf rt pa (va_up (va_up co p9 true) g9 false) rho lo hi g9 p9 hI hgm c_41.symm ht (hF141 _ _ _ (hF134 _ _ _ hL_0 (show ¬ (tgE t1.1 t1.2) t0 by (try simp only [ndT, tgE, gT, tgR, ndT9, tg0, Prod.mk.injEq]); first | done | omega | (simp; done) | simp_all)) (show ¬ (tgE t1.1 t1.2) t0 by (try simp only [ndT, tgE, gT, tgR, ndT9, tg0, Prod.mk.injEq]); first | done | omega | (simp; done) | simp_all)) hpd140) ⟨rfl, rfl⟩ ⟨(Nat.le_of_ble_eq_true rfl), (Nat.le_of_ble_eq_true rfl)⟩ rfl (Nat.le_of_ble_eq_true rfl) dJ9_fixAfterInsertion_145 rfl ⟨(Nat.le_of_ble_eq_true rfl), (Nat.le_of_ble_eq_true rfl)⟩) 0 (Nat.le_of_ble_eq_true rfl) 0 (Nat.le_of_ble_eq_true rfl) 148 rfl (fun M143 k144 hp145 => ?_)
                  obtain ⟨hc147, hpd148, hF149, hk150⟩ := hp145
                  obtain ⟨lf151, elf151⟩ : ∃ z, z = rlR rt lf pa g9 p9 := ⟨_, rfl⟩
                  obtain ⟨rt151, ert151⟩ : ∃ z, z = rlL rt pa g9 p9 := ⟨_, rfl⟩
                  obtain ⟨pa151, epa151⟩ : ∃ z, z = rlP rt pa g9 p9 := ⟨_, rfl⟩
                  obtain ⟨rr151, err151⟩ : ∃ z, z = rlT r pa g9 p9 := ⟨_, rfl⟩
                  obtain ⟨lo151, elo151⟩ : ∃ z, z = va_up lo g9 (some p9) := ⟨_, rfl⟩
                  obtain ⟨hi151, ehi151⟩ : ∃ z, z = va_up hi p9 (hi g9) := ⟨_, rfl⟩
                  rw [← elf151, ← ert151, ← epa151] at hpd148
                  rw [← err151] at hc147
                  have hI151 : tmI rr151 Ns rho lf151 rt151 pa151 lo151 hi151 := by rw [err151, elf151, ert151, epa151, elo151, ehi151]; exact hI.rotR hgm c_41.symm
                  have hf152 : pa151 x = some p9 := by rw [epa151, rlP_o (Ne.symm hgx) (Ne.symm hpx) (fun q => c_128 q.symm)]; exact hp9
                  refine g_goto hC dJ9_fixAfterInsertion_148 5 rfl ?_
                  refine gJ.sub (M' := M143) [1, 2] rfl ?_
                  exact ih x lf151 rt151 pa151 (va_up (va_up co p9 true) g9 false) rr151 lo151 hi151 M143 hI151 hx (Nat.lt_of_lt_of_le (by rw [(fxM_p hp9 c_9), fxM_z hf152 (by rw [va_up_ne _ _ (Ne.symm hgp), va_up_self])]; omega) (Nat.le_of_lt_succ hmu)) hc147 hpd148 (hLF.trans (((gFr.refl.trans (hF134.mono (fun b t h => by obtain ⟨u9, v9⟩ := t; revert h; (try simp only [ndT, tgE, gT, tgR, ndT9, tg0, Prod.mk.injEq]); first | done | omega | (simp; done) | (intro h; simp_all; done)))).trans (hF141.mono (fun b t h => by obtain ⟨u9, v9⟩ := t; revert h; (try simp only [ndT, tgE, gT, tgR, ndT9, tg0, Prod.mk.injEq]); first | done | omega | (simp; done) | (intro h; simp_all; done)))).trans (hF149.mono (fun b t h => by obtain ⟨u9, v9⟩ := t; revert h; (try simp only [ndT, tgE, gT, tgR, ndT9, tg0, Prod.mk.injEq]); first | done | omega | (simp; done) | (intro h; simp_all; done)))))
                · refine g_aload_n hC dJ9_fixAfterInsertion_108 2 rfl gRef_r 109 rfl ?_
                  refine g_callqP (g_S (As := [.ref x]) (rest := []) hC msJ9_parentOf q1056 (met_TM_parentOf l G ML t1 Ns kb vl lf rt pa co x hx hLp_0) ⟨rfl, rfl⟩ ⟨(Nat.le_of_ble_eq_true rfl), (Nat.le_of_ble_eq_true rfl)⟩ rfl (Nat.le_of_ble_eq_true rfl) dJ9_fixAfterInsertion_109 rfl ⟨(Nat.le_of_ble_eq_true rfl), (Nat.le_of_ble_eq_true rfl)⟩) 112 rfl 0 (Nat.le_of_ble_eq_true rfl) ?_
                  refine g_topv (y := .ref p9) (congrArg va_rf (show pa x = some p9 from hp9)) ?_
                  refine g_astore_n hC dJ9_fixAfterInsertion_112 rfl gRef_r (Nat.le_of_ble_eq_true rfl) [(1, .ref p9), (2, va_rf (rt g9)), (0, .ref mp)] rfl 113 rfl ?_
                  refine g_aload_n hC dJ9_fixAfterInsertion_113 2 rfl gRef_r 114 rfl ?_
                  refine g_aload_n hC dJ9_fixAfterInsertion_114 0 rfl gRef_r 115 rfl ?_
                  refine g_callv (g_V (As := [.ref p9]) (rest := []) hC mvJ9_rotateLeft q1071 (gOf.of hC.K cI24 hL_0) (met_TM_rotL l G ML mp t0 cm r n mc ks t1 Ns kb vl lf rt pa co rho lo hi p9 x hI hpm c_128.symm ht hL_0 hLp_0) ⟨rfl, rfl⟩ ⟨(Nat.le_of_ble_eq_true rfl), (Nat.le_of_ble_eq_true rfl)⟩ rfl (Nat.le_of_ble_eq_true rfl) dJ9_fixAfterInsertion_115 rfl ⟨(Nat.le_of_ble_eq_true rfl), (Nat.le_of_ble_eq_true rfl)⟩) 0 (Nat.le_of_ble_eq_true rfl) 0 (Nat.le_of_ble_eq_true rfl) 118 rfl (fun M153 k154 hp155 => ?_)
                  obtain ⟨hc157, hpd158, hF159, hk160⟩ := hp155
                  obtain ⟨lf161, elf161⟩ : ∃ z, z = rlL lf pa p9 x := ⟨_, rfl⟩
                  obtain ⟨rt161, ert161⟩ : ∃ z, z = rlR lf rt pa p9 x := ⟨_, rfl⟩
                  obtain ⟨pa161, epa161⟩ : ∃ z, z = rlP lf pa p9 x := ⟨_, rfl⟩
                  obtain ⟨rr161, err161⟩ : ∃ z, z = rlT r pa p9 x := ⟨_, rfl⟩
                  obtain ⟨lo161, elo161⟩ : ∃ z, z = va_up lo x (lo p9) := ⟨_, rfl⟩
                  obtain ⟨hi161, ehi161⟩ : ∃ z, z = va_up hi p9 (some x) := ⟨_, rfl⟩
                  rw [← elf161, ← ert161, ← epa161] at hpd158
                  rw [← err161] at hc157
                  have hI161 : tmI rr161 Ns rho lf161 rt161 pa161 lo161 hi161 := by rw [err161, elf161, ert161, epa161, elo161, ehi161]; exact hI.rotL hpm c_128.symm
                  have hf162 : pa161 p9 = some x := by rw [epa161]; exact rlP_p
                  have hf163 : pa161 x = some g9 := by rw [epa161, rlP_q (Ne.symm hpx)]; exact hg
                  have hf164 : lf161 g9 = some x := by rw [elf161]; exact rlL_g hg c_41.symm hgx
                  refine g_aload_n hC dJ9_fixAfterInsertion_118 0 rfl gRef_r 119 rfl ?_
                  refine g_callqP (g_S (As := [.ref p9]) (rest := []) hC msJ9_parentOf q1056 (met_TM_parentOf l G M153 t1 Ns kb vl lf161 rt161 pa161 co p9 hpm hpd158) ⟨rfl, rfl⟩ ⟨(Nat.le_of_ble_eq_true rfl), (Nat.le_of_ble_eq_true rfl)⟩ rfl (Nat.le_of_ble_eq_true rfl) dJ9_fixAfterInsertion_119 rfl ⟨(Nat.le_of_ble_eq_true rfl), (Nat.le_of_ble_eq_true rfl)⟩) 122 rfl 0 (Nat.le_of_ble_eq_true rfl) ?_
                  refine g_topv (y := .ref x) (congrArg va_rf (show pa161 p9 = some x from hf162)) ?_
                  refine g_iconst hC dJ9_fixAfterInsertion_122 ki_1 123 rfl ?_
                  refine g_callv (g_S (As := [.ref x, .int 1]) (rest := []) hC msJ9_setColor q1068 (met_TM_setColor l G M153 t1 Ns kb vl lf161 rt161 pa161 co x true hx hpd158) ⟨rfl, rfl⟩ ⟨(Nat.le_of_ble_eq_true rfl), (Nat.le_of_ble_eq_true rfl)⟩ rfl (Nat.le_of_ble_eq_true rfl) dJ9_fixAfterInsertion_123 rfl ⟨(Nat.le_of_ble_eq_true rfl), (Nat.le_of_ble_eq_true rfl)⟩) 0 (Nat.le_of_ble_eq_true rfl) 0 (Nat.le_of_ble_eq_true rfl) 126 rfl (fun M165 k166 hp167 => ?_)
                  obtain ⟨hpd169, hF170, hk171⟩ := hp167
                  refine g_aload_n hC dJ9_fixAfterInsertion_126 0 rfl gRef_r 127 rfl ?_
                  refine g_callqP (g_S (As := [.ref p9]) (rest := []) hC msJ9_parentOf q1056 (met_TM_parentOf l G M165 t1 Ns kb vl lf161 rt161 pa161 (va_up co x true) p9 hpm hpd169) ⟨rfl, rfl⟩ ⟨(Nat.le_of_ble_eq_true rfl), (Nat.le_of_ble_eq_true rfl)⟩ rfl (Nat.le_of_ble_eq_true rfl) dJ9_fixAfterInsertion_127 rfl ⟨(Nat.le_of_ble_eq_true rfl), (Nat.le_of_ble_eq_true rfl)⟩) 130 rfl 0 (Nat.le_of_ble_eq_true rfl) ?_
                  refine g_topv (y := .ref x) (congrArg va_rf (show pa161 p9 = some x from hf162)) ?_
                  refine g_callqP (g_S (As := [.ref x]) (rest := []) hC msJ9_parentOf q1056 (met_TM_parentOf l G M165 t1 Ns kb vl lf161 rt161 pa161 (va_up co x true) x hx hpd169) ⟨rfl, rfl⟩ ⟨(Nat.le_of_ble_eq_true rfl), (Nat.le_of_ble_eq_true rfl)⟩ rfl (Nat.le_of_ble_eq_true rfl) dJ9_fixAfterInsertion_130 rfl ⟨(Nat.le_of_ble_eq_true rfl), (Nat.le_of_ble_eq_true rfl)⟩) 133 rfl 0 (Nat.le_of_ble_eq_true rfl) ?_
                  refine g_topv (y := .ref g9) (congrArg va_rf (show pa161 x = some g9 from hf163)) ?_
                  refine g_iconst hC dJ9_fixAfterInsertion_133 ki_0 134 rfl ?_
                  refine g_callv (g_S (As := [.ref g9, .int 0]) (rest := []) hC msJ9_setColor q1068 (met_TM_setColor l G M165 t1 Ns kb vl lf161 rt161 pa161 (va_up co x true) g9 false hgm hpd169) ⟨rfl, rfl⟩ ⟨(Nat.le_of_ble_eq_true rfl), (Nat.le_of_ble_eq_true rfl)⟩ rfl (Nat.le_of_ble_eq_true rfl) dJ9_fixAfterInsertion_134 rfl ⟨(Nat.le_of_ble_eq_true rfl), (Nat.le_of_ble_eq_true rfl)⟩) 0 (Nat.le_of_ble_eq_true rfl) 0 (Nat.le_of_ble_eq_true rfl) 137 rfl (fun M172 k173 hp174 => ?_)
                  obtain ⟨hpd176, hF177, hk178⟩ := hp174
                  have hH179 := (hF177 _ _ _ (hF170 _ _ _ hc157 (show ¬ (tgE t1.1 t1.2) t0 by (try simp only [ndT, tgE, gT, tgR, ndT9, tg0, Prod.mk.injEq]); first | done | omega | (simp; done) | simp_all)) (show ¬ (tgE t1.1 t1.2) t0 by (try simp only [ndT, tgE, gT, tgR, ndT9, tg0, Prod.mk.injEq]); first | done | omega | (simp; done) | simp_all))
                  refine g_aload_n hC dJ9_fixAfterInsertion_137 2 rfl gRef_r 138 rfl ?_
                  refine g_aload_n hC dJ9_fixAfterInsertion_138 0 rfl gRef_r 139 rfl ?_
                  refine g_callqP (g_S (As := [.ref p9]) (rest := [.ref mp]) hC msJ9_parentOf q1056 (met_TM_parentOf l G M172 t1 Ns kb vl lf161 rt161 pa161 (va_up (va_up co x true) g9 false) p9 hpm hpd176) ⟨rfl, rfl⟩ ⟨(Nat.le_of_ble_eq_true rfl), (Nat.le_of_ble_eq_true rfl)⟩ rfl (Nat.le_of_ble_eq_true rfl) dJ9_fixAfterInsertion_139 rfl ⟨(Nat.le_of_ble_eq_true rfl), (Nat.le_of_ble_eq_true rfl)⟩) 142 rfl 0 (Nat.le_of_ble_eq_true rfl) ?_
                  refine g_topv (y := .ref x) (congrArg va_rf (show pa161 p9 = some x from hf162)) ?_
                  refine g_callqP (g_S (As := [.ref x]) (rest := [.ref mp]) hC msJ9_parentOf q1056 (met_TM_parentOf l G M172 t1 Ns kb vl lf161 rt161 pa161 (va_up (va_up co x true) g9 false) x hx hpd176) ⟨rfl, rfl⟩ ⟨(Nat.le_of_ble_eq_true rfl), (Nat.le_of_ble_eq_true rfl)⟩ rfl (Nat.le_of_ble_eq_true rfl) dJ9_fixAfterInsertion_142 rfl ⟨(Nat.le_of_ble_eq_true rfl), (Nat.le_of_ble_eq_true rfl)⟩) 145 rfl 0 (Nat.le_of_ble_eq_true rfl) ?_
                  refine g_topv (y := .ref g9) (congrArg va_rf (show pa161 x = some g9 from hf163)) ?_
                  refine g_callv (g_V (As := [.ref g9]) (rest := []) hC mvJ9_rotateRight q1075 (gOf.of hC.K cI24 hH179) (met_TM_rotR l G M172 mp t0 cm rr161 n mc ks t1 Ns kb vl lf161 rt161 pa161 (va_up (va_up co x true) g9 false) rho lo161 hi161 g9 x hI161 hgm hf164 ht hH179 hpd176) ⟨rfl, rfl⟩ ⟨(Nat.le_of_ble_eq_true rfl), (Nat.le_of_ble_eq_true rfl)⟩ rfl (Nat.le_of_ble_eq_true rfl) dJ9_fixAfterInsertion_145 rfl ⟨(Nat.le_of_ble_eq_true rfl), (Nat.le_of_ble_eq_true rfl)⟩) 0 (Nat.le_of_ble_eq_true rfl) 0 (Nat.le_of_ble_eq_true rfl) 148 rfl (fun M180 k181 hp182 => ?_)
                  obtain ⟨hc184, hpd185, hF186, hk187⟩ := hp182
                  obtain ⟨lf188, elf188⟩ : ∃ z, z = rlR rt161 lf161 pa161 g9 x := ⟨_, rfl⟩
                  obtain ⟨rt188, ert188⟩ : ∃ z, z = rlL rt161 pa161 g9 x := ⟨_, rfl⟩
                  obtain ⟨pa188, epa188⟩ : ∃ z, z = rlP rt161 pa161 g9 x := ⟨_, rfl⟩
                  obtain ⟨rr188, err188⟩ : ∃ z, z = rlT rr161 pa161 g9 x := ⟨_, rfl⟩
                  obtain ⟨lo188, elo188⟩ : ∃ z, z = va_up lo161 g9 (some x) := ⟨_, rfl⟩
                  obtain ⟨hi188, ehi188⟩ : ∃ z, z = va_up hi161 x (hi161 g9) := ⟨_, rfl⟩
                  rw [← elf188, ← ert188, ← epa188] at hpd185
                  rw [← err188] at hc184
                  have hI188 : tmI rr188 Ns rho lf188 rt188 pa188 lo188 hi188 := by rw [err188, elf188, ert188, epa188, elo188, ehi188]; exact hI161.rotR hgm hf164
                  have hf189 : pa188 p9 = some x := by rw [epa188, rlP_o (Ne.symm hgp) hpx (fun q => hI161.lr hx (by rw [elf161]; exact rlL_q) q)]; exact hf162
                  refine g_goto hC dJ9_fixAfterInsertion_148 5 rfl ?_
                  refine gJ.sub (M' := M180) [2, 0] rfl ?_
                  exact ih p9 lf188 rt188 pa188 (va_up (va_up co x true) g9 false) rr188 lo188 hi188 M180 hI188 hpm (Nat.lt_of_lt_of_le (by rw [(fxM_p hp9 c_9), fxM_z hf189 (by rw [va_up_ne _ _ (Ne.symm hgx), va_up_self])]; omega) (Nat.le_of_lt_succ hmu)) hc184 hpd185 (hLF.trans ((((gFr.refl.trans (hF159.mono (fun b t h => by obtain ⟨u9, v9⟩ := t; revert h; (try simp only [ndT, tgE, gT, tgR, ndT9, tg0, Prod.mk.injEq]); first | done | omega | (simp; done) | (intro h; simp_all; done)))).trans (hF170.mono (fun b t h => by obtain ⟨u9, v9⟩ := t; revert h; (try simp only [ndT, tgE, gT, tgR, ndT9, tg0, Prod.mk.injEq]); first | done | omega | (simp; done) | (intro h; simp_all; done)))).trans (hF177.mono (fun b t h => by obtain ⟨u9, v9⟩ := t; revert h; (try simp only [ndT, tgE, gT, tgR, ndT9, tg0, Prod.mk.injEq]); first | done | omega | (simp; done) | (intro h; simp_all; done)))).trans (hF186.mono (fun b t h => by obtain ⟨u9, v9⟩ := t; revert h; (try simp only [ndT, tgE, gT, tgR, ndT9, tg0, Prod.mk.injEq]); first | done | omega | (simp; done) | (intro h; simp_all; done)))))
              · replace c_127 : oK co (rt g9) = false := bB_e0 c_127
                obtain ⟨y9, hy9⟩ : ∃ y9, rt g9 = some y9 := by cases q : rt g9 with | none => rw [q] at c_127; cases (show true = false from c_127) | some y => exact ⟨y, rfl⟩
                have hym : y9 ∈ Ns := (hI.rtm hgm hy9).1
                refine g_lv (lv' := [(2, .ref y9), (0, .ref mp), (1, .ref x)]) (by rw [hy9]; rfl) ?_
                refine g_aload_n hC dJ9_fixAfterInsertion_62 2 rfl gRef_r 63 rfl ?_
                refine g_callqP (g_S (As := [.ref x]) (rest := []) hC msJ9_parentOf q1056 (met_TM_parentOf l G ML t1 Ns kb vl lf rt pa co x hx hLp_0) ⟨rfl, rfl⟩ ⟨(Nat.le_of_ble_eq_true rfl), (Nat.le_of_ble_eq_true rfl)⟩ rfl (Nat.le_of_ble_eq_true rfl) dJ9_fixAfterInsertion_63 rfl ⟨(Nat.le_of_ble_eq_true rfl), (Nat.le_of_ble_eq_true rfl)⟩) 66 rfl 0 (Nat.le_of_ble_eq_true rfl) ?_
                refine g_topv (y := .ref p9) (congrArg va_rf (show pa x = some p9 from hp9)) ?_
                refine g_iconst hC dJ9_fixAfterInsertion_66 ki_1 67 rfl ?_
                refine g_callv (g_S (As := [.ref p9, .int 1]) (rest := []) hC msJ9_setColor q1068 (met_TM_setColor l G ML t1 Ns kb vl lf rt pa co p9 true hpm hLp_0) ⟨rfl, rfl⟩ ⟨(Nat.le_of_ble_eq_true rfl), (Nat.le_of_ble_eq_true rfl)⟩ rfl (Nat.le_of_ble_eq_true rfl) dJ9_fixAfterInsertion_67 rfl ⟨(Nat.le_of_ble_eq_true rfl), (Nat.le_of_ble_eq_true rfl)⟩) 0 (Nat.le_of_ble_eq_true rfl) 0 (Nat.le_of_ble_eq_true rfl) 70 rfl (fun M190 k191 hp192 => ?_)
                obtain ⟨hpd194, hF195, hk196⟩ := hp192
                refine g_aload_n hC dJ9_fixAfterInsertion_70 0 rfl gRef_r 71 rfl ?_
                refine g_iconst hC dJ9_fixAfterInsertion_71 ki_1 72 rfl ?_
                refine g_callv (g_S (As := [.ref y9, .int 1]) (rest := []) hC msJ9_setColor q1068 (met_TM_setColor l G M190 t1 Ns kb vl lf rt pa (va_up co p9 true) y9 true hym hpd194) ⟨rfl, rfl⟩ ⟨(Nat.le_of_ble_eq_true rfl), (Nat.le_of_ble_eq_true rfl)⟩ rfl (Nat.le_of_ble_eq_true rfl) dJ9_fixAfterInsertion_72 rfl ⟨(Nat.le_of_ble_eq_true rfl), (Nat.le_of_ble_eq_true rfl)⟩) 0 (Nat.le_of_ble_eq_true rfl) 0 (Nat.le_of_ble_eq_true rfl) 75 rfl (fun M197 k198 hp199 => ?_)
                obtain ⟨hpd201, hF202, hk203⟩ := hp199
                refine g_aload_n hC dJ9_fixAfterInsertion_75 2 rfl gRef_r 76 rfl ?_
                refine g_callqP (g_S (As := [.ref x]) (rest := []) hC msJ9_parentOf q1056 (met_TM_parentOf l G M197 t1 Ns kb vl lf rt pa (va_up (va_up co p9 true) y9 true) x hx hpd201) ⟨rfl, rfl⟩ ⟨(Nat.le_of_ble_eq_true rfl), (Nat.le_of_ble_eq_true rfl)⟩ rfl (Nat.le_of_ble_eq_true rfl) dJ9_fixAfterInsertion_76 rfl ⟨(Nat.le_of_ble_eq_true rfl), (Nat.le_of_ble_eq_true rfl)⟩) 79 rfl 0 (Nat.le_of_ble_eq_true rfl) ?_
                refine g_topv (y := .ref p9) (congrArg va_rf (show pa x = some p9 from hp9)) ?_
                refine g_callqP (g_S (As := [.ref p9]) (rest := []) hC msJ9_parentOf q1056 (met_TM_parentOf l G M197 t1 Ns kb vl lf rt pa (va_up (va_up co p9 true) y9 true) p9 hpm hpd201) ⟨rfl, rfl⟩ ⟨(Nat.le_of_ble_eq_true rfl), (Nat.le_of_ble_eq_true rfl)⟩ rfl (Nat.le_of_ble_eq_true rfl) dJ9_fixAfterInsertion_79 rfl ⟨(Nat.le_of_ble_eq_true rfl), (Nat.le_of_ble_eq_true rfl)⟩) 82 rfl 0 (Nat.le_of_ble_eq_true rfl) ?_
                refine g_topv (y := .ref g9) (congrArg va_rf (show pa p9 = some g9 from hg)) ?_
                refine g_iconst hC dJ9_fixAfterInsertion_82 ki_0 83 rfl ?_
                refine g_callv (g_S (As := [.ref g9, .int 0]) (rest := []) hC msJ9_setColor q1068 (met_TM_setColor l G M197 t1 Ns kb vl lf rt pa (va_up (va_up co p9 true) y9 true) g9 false hgm hpd201) ⟨rfl, rfl⟩ ⟨(Nat.le_of_ble_eq_true rfl), (Nat.le_of_ble_eq_true rfl)⟩ rfl (Nat.le_of_ble_eq_true rfl) dJ9_fixAfterInsertion_83 rfl ⟨(Nat.le_of_ble_eq_true rfl), (Nat.le_of_ble_eq_true rfl)⟩) 0 (Nat.le_of_ble_eq_true rfl) 0 (Nat.le_of_ble_eq_true rfl) 86 rfl (fun M204 k205 hp206 => ?_)
                obtain ⟨hpd208, hF209, hk210⟩ := hp206
                have hH211 := (hF209 _ _ _ (hF202 _ _ _ (hF195 _ _ _ hL_0 (show ¬ (tgE t1.1 t1.2) t0 by (try simp only [ndT, tgE, gT, tgR, ndT9, tg0, Prod.mk.injEq]); first | done | omega | (simp; done) | simp_all)) (show ¬ (tgE t1.1 t1.2) t0 by (try simp only [ndT, tgE, gT, tgR, ndT9, tg0, Prod.mk.injEq]); first | done | omega | (simp; done) | simp_all)) (show ¬ (tgE t1.1 t1.2) t0 by (try simp only [ndT, tgE, gT, tgR, ndT9, tg0, Prod.mk.injEq]); first | done | omega | (simp; done) | simp_all))
                refine g_aload_n hC dJ9_fixAfterInsertion_86 2 rfl gRef_r 87 rfl ?_
                refine g_callqP (g_S (As := [.ref x]) (rest := []) hC msJ9_parentOf q1056 (met_TM_parentOf l G M204 t1 Ns kb vl lf rt pa (va_up (va_up (va_up co p9 true) y9 true) g9 false) x hx hpd208) ⟨rfl, rfl⟩ ⟨(Nat.le_of_ble_eq_true rfl), (Nat.le_of_ble_eq_true rfl)⟩ rfl (Nat.le_of_ble_eq_true rfl) dJ9_fixAfterInsertion_87 rfl ⟨(Nat.le_of_ble_eq_true rfl), (Nat.le_of_ble_eq_true rfl)⟩) 90 rfl 0 (Nat.le_of_ble_eq_true rfl) ?_
                refine g_topv (y := .ref p9) (congrArg va_rf (show pa x = some p9 from hp9)) ?_
                refine g_callqP (g_S (As := [.ref p9]) (rest := []) hC msJ9_parentOf q1056 (met_TM_parentOf l G M204 t1 Ns kb vl lf rt pa (va_up (va_up (va_up co p9 true) y9 true) g9 false) p9 hpm hpd208) ⟨rfl, rfl⟩ ⟨(Nat.le_of_ble_eq_true rfl), (Nat.le_of_ble_eq_true rfl)⟩ rfl (Nat.le_of_ble_eq_true rfl) dJ9_fixAfterInsertion_90 rfl ⟨(Nat.le_of_ble_eq_true rfl), (Nat.le_of_ble_eq_true rfl)⟩) 93 rfl 0 (Nat.le_of_ble_eq_true rfl) ?_
                refine g_topv (y := .ref g9) (congrArg va_rf (show pa p9 = some g9 from hg)) ?_
                refine g_astore_n hC dJ9_fixAfterInsertion_93 rfl gRef_r (Nat.le_of_ble_eq_true rfl) [(1, .ref g9), (2, .ref y9), (0, .ref mp)] rfl 94 rfl ?_
                refine g_goto hC dJ9_fixAfterInsertion_94 148 rfl ?_
                refine g_goto hC dJ9_fixAfterInsertion_148 5 rfl ?_
                refine gJ.sub (M' := M204) [2, 0] rfl ?_
                exact ih g9 lf rt pa (va_up (va_up (va_up co p9 true) y9 true) g9 false) r lo hi M204 hI hgm (Nat.lt_of_lt_of_le (by rw [(fxM_p hp9 c_9)]; have h1 := hI.wP hx hp9; have h2 := hI.wP hpm hg; have h3 := tmw_le (Ns := Ns) (ρ := rho) (lo := lo) (hi := hi) (a := g9); exact Nat.lt_of_le_of_lt fxM_le (by omega)) (Nat.le_of_lt_succ hmu)) hH211 hpd208 (hLF.trans (((gFr.refl.trans (hF195.mono (fun b t h => by obtain ⟨u9, v9⟩ := t; revert h; (try simp only [ndT, tgE, gT, tgR, ndT9, tg0, Prod.mk.injEq]); first | done | omega | (simp; done) | (intro h; simp_all; done)))).trans (hF202.mono (fun b t h => by obtain ⟨u9, v9⟩ := t; revert h; (try simp only [ndT, tgE, gT, tgR, ndT9, tg0, Prod.mk.injEq]); first | done | omega | (simp; done) | (intro h; simp_all; done)))).trans (hF209.mono (fun b t h => by obtain ⟨u9, v9⟩ := t; revert h; (try simp only [ndT, tgE, gT, tgR, ndT9, tg0, Prod.mk.injEq]); first | done | omega | (simp; done) | (intro h; simp_all; done)))))
  exact loop5 _ x0 lf rt pa (va_up co x0 false) r lo hi M1 hI hx0 (Nat.lt_succ_self _) (hU2.n (gne_c hM_0 (hP_0 x0 hx0) (by decide)) hM_0) hE3 (gFr.refl.up hU2 (hP_0 x0 hx0) (show (fun t => tgE t0.1 t0.2 t ∨ tgE t1.1 t1.2 t) t1 by (try simp only [ndT, tgE, gT, tgR, ndT9, tg0, Prod.mk.injEq]); first | done | omega | (simp; done)))
