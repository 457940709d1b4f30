/-! TreeMap: deletion -/
set_option maxRecDepth 100000
def delK (Ns : List Nat) (ky : Nat → Int32) (kb vl : Nat → Nat) (p0 pd : Nat) (kb1 vl1 : Nat → Nat) : Prop := (pd = p0 ∧ kb1 = kb ∧ vl1 = vl) ∨ (pd ≠ p0 ∧ tmH Ns ky (ky p0) = some pd ∧ kb1 = va_up kb p0 (kb pd) ∧ vl1 = va_up vl p0 (vl pd))
abbrev wo (Ns : List Nat) (pd : Nat) : List Nat := Ns.filter (fun a => decide (a ≠ pd))
theorem wo_mem {Ns : List Nat} {pd a : Nat} : a ∈ wo Ns pd ↔ a ∈ Ns ∧ a ≠ pd := by simp [wo]
theorem wo_nodup {Ns : List Nat} {pd : Nat} (h : Ns.Nodup) : (wo Ns pd).Nodup := h.sublist List.filter_sublist
theorem tmE.sub {M : gM} {t : Nat × Nat} {Ns Ns' : List Nat} {kb vl : Nat → Nat} {lf rt pa : Nat → Option Nat} {co : Nat → Bool} (h : tmE M t Ns kb vl lf rt pa co) (hm : ∀ a ∈ Ns', a ∈ Ns) : tmE M t Ns' kb vl lf rt pa co := fun a ha => h a (hm a ha)
theorem tmI.delR {r : Option Nat} {Ns : List Nat} {ρ : Nat → Int} {lf rt pa lo hi : Nat → Option Nat} (h : tmI r Ns ρ lf rt pa lo hi) {s : Nat} {Ns' : List Nat} (hs : s ∈ Ns) (hl : rt s = none) (hN : Ns'.Nodup) (hm : ∀ a, a ∈ Ns' ↔ a ∈ Ns ∧ a ≠ s) {r' : Option Nat} {lf' rt' pa' : Nat → Option Nat}
    (hr : r' = if pa s = none then lf s else r) (hlf : ∀ a ∈ Ns', lf' a = if lf a = some s then lf s else lf a) (hrt : ∀ a ∈ Ns', rt' a = if rt a = some s then lf s else rt a) (hpa : ∀ a ∈ Ns', pa' a = if pa a = some s then pa s else pa a) :
    tmI r' Ns' ρ lf' rt' pa' (fun a => if lo a = some s then lo s else lo a) (fun a => if hi a = some s then hi s else hi a) := (h.mir.del hs hl hN hm hr hrt hlf hpa).mir2
theorem tmI.only {r : Option Nat} {Ns : List Nat} {ρ : Nat → Int} {lf rt pa lo hi : Nat → Option Nat} (h : tmI r Ns ρ lf rt pa lo hi) {s c : Nat} (hs : s ∈ Ns) (h1 : lf s = none) (h2 : rt s = none) (hp : pa s = none) (hc : c ∈ Ns) : c = s := by
  obtain ⟨e3, e4⟩ := (⟨(h.2.1 s (h.2.2.2.2.2.2.2.2.2.1 s hs hp)).2.2.1, (h.2.1 s (h.2.2.2.2.2.2.2.2.2.1 s hs hp)).2.2.2⟩ : lo s = none ∧ hi s = none)
  have hI : inI ρ lo hi s c := ⟨fun u hu => (by rw [e3] at hu; cases hu), fun u hu => (by rw [e4] at hu; cases hu)⟩
  have q1 := h.2.2.2.2.2.2.1 s hs h1 c hc hI
  have q2 := h.2.2.2.2.2.2.2.1 s hs h2 c hc hI
  exact h.2.2.2.2.2.2.2.2.2.2 c hc s hs (by omega)
theorem pw_ne {f : Nat → Option Nat} {pd a : Nat} {v x : Option Nat} (hn : ¬ f a = some pd) (ha : a ≠ pd) : va_up f pd v a = if f a = some pd then x else f a := by rw [if_neg hn, va_up_ne _ _ ha]
theorem pw_n {f : Nat → Option Nat} {pd a : Nat} {x : Option Nat} (hn : ¬ f a = some pd) : f a = if f a = some pd then x else f a := by rw [if_neg hn]
theorem pw_g {f : Nat → Option Nat} {pd g a : Nat} {v : Option Nat} (hg : f g = some pd) (hu : f a = some pd → a = g) : va_up f g v a = if f a = some pd then v else f a := by
  by_cases e : a = g
  · subst e; rw [va_up_self, if_pos hg]
  · rw [va_up_ne _ _ e, if_neg (fun q => e (hu q))]
theorem pw_gn {f : Nat → Option Nat} {pd g a : Nat} {v w : Option Nat} (hg : f g = some pd) (hu : f a = some pd → a = g) (ha : a ≠ pd) : va_up (va_up f g v) pd w a = if f a = some pd then v else f a := by rw [va_up_ne _ _ ha]; exact pw_g hg hu
theorem pw_p {pa : Nat → Option Nat} {pd c a : Nat} {w : Option Nat} (hc : pa c = some pd) (hu : pa a = some pd → a = c) (ha : a ≠ pd) : va_up (va_up pa c (pa pd)) pd w a = if pa a = some pd then pa pd else pa a := by rw [va_up_ne _ _ ha]; exact pw_g hc hu

theorem tmI.uL {r : Option Nat} {Ns : List Nat} {ρ : Nat → Int} {lf rt pa lo hi : Nat → Option Nat} (h : tmI r Ns ρ lf rt pa lo hi) {pd : Nat} (hpd : pd ∈ Ns) {a g : Nat} (hg : pa pd = some g) (ha : a ∈ Ns) (q : lf a = some pd) : a = g := Option.some.inj ((h.lfm ha q).2.symm.trans hg)
theorem tmI.uR {r : Option Nat} {Ns : List Nat} {ρ : Nat → Int} {lf rt pa lo hi : Nat → Option Nat} (h : tmI r Ns ρ lf rt pa lo hi) {pd : Nat} (hpd : pd ∈ Ns) {a g : Nat} (hg : pa pd = some g) (ha : a ∈ Ns) (q : rt a = some pd) : a = g := Option.some.inj ((h.rtm ha q).2.symm.trans hg)
theorem tmI.uP {r : Option Nat} {Ns : List Nat} {ρ : Nat → Int} {lf rt pa lo hi : Nat → Option Nat} (h : tmI r Ns ρ lf rt pa lo hi) {pd : Nat} (hpd : pd ∈ Ns) {a c : Nat} (hl : lf pd = none) (hc : rt pd = some c) (ha : a ∈ Ns) (q : pa a = some pd) : a = c := by
  rcases h.ch ha q with z | z
  · rw [hl] at z; cases z
  · exact Option.some.inj (z.symm.trans hc)
theorem tmI.nL {r : Option Nat} {Ns : List Nat} {ρ : Nat → Int} {lf rt pa lo hi : Nat → Option Nat} (h : tmI r Ns ρ lf rt pa lo hi) {pd : Nat} (hpd : pd ∈ Ns) {a : Nat} (hg : pa pd = none) (ha : a ∈ Ns) : ¬ lf a = some pd := fun q => by rw [(h.lfm ha q).2] at hg; cases hg
theorem tmI.nR {r : Option Nat} {Ns : List Nat} {ρ : Nat → Int} {lf rt pa lo hi : Nat → Option Nat} (h : tmI r Ns ρ lf rt pa lo hi) {pd : Nat} (hpd : pd ∈ Ns) {a : Nat} (hg : pa pd = none) (ha : a ∈ Ns) : ¬ rt a = some pd := fun q => by rw [(h.rtm ha q).2] at hg; cases hg
theorem tmI.cut0 {r : Option Nat} {Ns : List Nat} {ρ : Nat → Int} {lf rt pa lo hi : Nat → Option Nat} (h : tmI r Ns ρ lf rt pa lo hi) {pd : Nat} (hpd : pd ∈ Ns) {c : Nat} (hl : lf pd = none) (hc : rt pd = some c) (hp : pa pd = none) : tmI (some c) (wo Ns pd) ρ (va_up lf pd none) (va_up rt pd none) (va_up (va_up pa c (pa pd)) pd none) (fun a => if lo a = some pd then lo pd else lo a) (fun a => if hi a = some pd then hi pd else hi a) :=
  h.del hpd hl (wo_nodup h.1) (fun a => wo_mem) (by rw [if_pos hp, hc]) (fun a ha => pw_ne (h.nL hpd hp (wo_mem.mp ha).1) (wo_mem.mp ha).2) (fun a ha => pw_ne (h.nR hpd hp (wo_mem.mp ha).1) (wo_mem.mp ha).2) (fun a ha => pw_p (h.rtm hpd hc).2 (h.uP hpd hl hc (wo_mem.mp ha).1) (wo_mem.mp ha).2)
theorem tmI.cut1 {r : Option Nat} {Ns : List Nat} {ρ : Nat → Int} {lf rt pa lo hi : Nat → Option Nat} (h : tmI r Ns ρ lf rt pa lo hi) {pd : Nat} (hpd : pd ∈ Ns) {c g : Nat} (hl : lf pd = none) (hc : rt pd = some c) (hp : pa pd = some g) (hg : lf g = some pd) : tmI r (wo Ns pd) ρ (va_up (va_up lf g (some c)) pd none) (va_up rt pd none) (va_up (va_up pa c (pa pd)) pd none) (fun a => if lo a = some pd then lo pd else lo a) (fun a => if hi a = some pd then hi pd else hi a) :=
  h.del hpd hl (wo_nodup h.1) (fun a => wo_mem) (by rw [if_neg (by rw [hp]; simp)]) (fun a ha => by rw [hc]; exact pw_gn hg (h.uL hpd hp (wo_mem.mp ha).1) (wo_mem.mp ha).2) (fun a ha => pw_ne (fun q => h.lr (wo_mem.mp ha).1 ((h.uR hpd hp (wo_mem.mp ha).1 q) ▸ hg) q) (wo_mem.mp ha).2) (fun a ha => pw_p (h.rtm hpd hc).2 (h.uP hpd hl hc (wo_mem.mp ha).1) (wo_mem.mp ha).2)
theorem tmI.cut2 {r : Option Nat} {Ns : List Nat} {ρ : Nat → Int} {lf rt pa lo hi : Nat → Option Nat} (h : tmI r Ns ρ lf rt pa lo hi) {pd : Nat} (hpd : pd ∈ Ns) {c g : Nat} (hl : lf pd = none) (hc : rt pd = some c) (hp : pa pd = some g) (hg : rt g = some pd) : tmI r (wo Ns pd) ρ (va_up lf pd none) (va_up (va_up rt g (some c)) pd none) (va_up (va_up pa c (pa pd)) pd none) (fun a => if lo a = some pd then lo pd else lo a) (fun a => if hi a = some pd then hi pd else hi a) :=
  h.del hpd hl (wo_nodup h.1) (fun a => wo_mem) (by rw [if_neg (by rw [hp]; simp)]) (fun a ha => pw_ne (fun q => h.lr (wo_mem.mp ha).1 q ((h.uL hpd hp (wo_mem.mp ha).1 q) ▸ hg)) (wo_mem.mp ha).2) (fun a ha => by rw [hc]; exact pw_gn hg (h.uR hpd hp (wo_mem.mp ha).1) (wo_mem.mp ha).2) (fun a ha => pw_p (h.rtm hpd hc).2 (h.uP hpd hl hc (wo_mem.mp ha).1) (wo_mem.mp ha).2)
theorem tmI.cutR0 {r : Option Nat} {Ns : List Nat} {ρ : Nat → Int} {lf rt pa lo hi : Nat → Option Nat} (h : tmI r Ns ρ lf rt pa lo hi) {pd : Nat} (hpd : pd ∈ Ns) {c : Nat} (hl : rt pd = none) (hc : lf pd = some c) (hp : pa pd = none) : tmI (some c) (wo Ns pd) ρ (va_up lf pd none) (va_up rt pd none) (va_up (va_up pa c (pa pd)) pd none) (fun a => if lo a = some pd then lo pd else lo a) (fun a => if hi a = some pd then hi pd else hi a) := (h.mir.cut0 hpd hl hc hp).mir2
theorem tmI.cutR1 {r : Option Nat} {Ns : List Nat} {ρ : Nat → Int} {lf rt pa lo hi : Nat → Option Nat} (h : tmI r Ns ρ lf rt pa lo hi) {pd : Nat} (hpd : pd ∈ Ns) {c g : Nat} (hl : rt pd = none) (hc : lf pd = some c) (hp : pa pd = some g) (hg : lf g = some pd) : tmI r (wo Ns pd) ρ (va_up (va_up lf g (some c)) pd none) (va_up rt pd none) (va_up (va_up pa c (pa pd)) pd none) (fun a => if lo a = some pd then lo pd else lo a) (fun a => if hi a = some pd then hi pd else hi a) := (h.mir.cut2 hpd hl hc hp hg).mir2
theorem tmI.cutR2 {r : Option Nat} {Ns : List Nat} {ρ : Nat → Int} {lf rt pa lo hi : Nat → Option Nat} (h : tmI r Ns ρ lf rt pa lo hi) {pd : Nat} (hpd : pd ∈ Ns) {c g : Nat} (hl : rt pd = none) (hc : lf pd = some c) (hp : pa pd = some g) (hg : rt g = some pd) : tmI r (wo Ns pd) ρ (va_up lf pd none) (va_up (va_up rt g (some c)) pd none) (va_up (va_up pa c (pa pd)) pd none) (fun a => if lo a = some pd then lo pd else lo a) (fun a => if hi a = some pd then hi pd else hi a) := (h.mir.cut1 hpd hl hc hp hg).mir2
theorem tmI.nP {r : Option Nat} {Ns : List Nat} {ρ : Nat → Int} {lf rt pa lo hi : Nat → Option Nat} (h : tmI r Ns ρ lf rt pa lo hi) {pd : Nat} (hpd : pd ∈ Ns) {a : Nat} (hl : lf pd = none) (hr : rt pd = none) (ha : a ∈ Ns) : ¬ pa a = some pd := fun q => by
  rcases h.ch ha q with z | z
  · rw [hl] at z; cases z
  · rw [hr] at z; cases z
theorem tmI.leaf0 {r : Option Nat} {Ns : List Nat} {ρ : Nat → Int} {lf rt pa lo hi : Nat → Option Nat} (h : tmI r Ns ρ lf rt pa lo hi) {pd : Nat} (hpd : pd ∈ Ns) (hl : lf pd = none) (hr : rt pd = none) (hp : pa pd = none) : tmI none (wo Ns pd) ρ lf rt pa (fun a => if lo a = some pd then lo pd else lo a) (fun a => if hi a = some pd then hi pd else hi a) :=
  h.del hpd hl (wo_nodup h.1) (fun a => wo_mem) (by rw [if_pos hp, hr]) (fun a ha => pw_n (h.nL hpd hp (wo_mem.mp ha).1)) (fun a ha => pw_n (h.nR hpd hp (wo_mem.mp ha).1)) (fun a ha => pw_n (h.nP hpd hl hr (wo_mem.mp ha).1))
theorem tmI.leaf1 {r : Option Nat} {Ns : List Nat} {ρ : Nat → Int} {lf rt pa lo hi : Nat → Option Nat} (h : tmI r Ns ρ lf rt pa lo hi) {pd : Nat} (hpd : pd ∈ Ns) {g : Nat} (hl : lf pd = none) (hr : rt pd = none) (hp : pa pd = some g) (hg : lf g = some pd) : tmI r (wo Ns pd) ρ (va_up lf g none) rt (va_up pa pd none) (fun a => if lo a = some pd then lo pd else lo a) (fun a => if hi a = some pd then hi pd else hi a) :=
  h.del hpd hl (wo_nodup h.1) (fun a => wo_mem) (by rw [if_neg (by rw [hp]; simp)]) (fun a ha => by rw [hr]; exact pw_g hg (h.uL hpd hp (wo_mem.mp ha).1)) (fun a ha => pw_n (fun q => h.lr (wo_mem.mp ha).1 ((h.uR hpd hp (wo_mem.mp ha).1 q) ▸ hg) q)) (fun a ha => pw_ne (h.nP hpd hl hr (wo_mem.mp ha).1) (wo_mem.mp ha).2)
theorem tmI.leaf2 {r : Option Nat} {Ns : List Nat} {ρ : Nat → Int} {lf rt pa lo hi : Nat → Option Nat} (h : tmI r Ns ρ lf rt pa lo hi) {pd : Nat} (hpd : pd ∈ Ns) {g : Nat} (hl : lf pd = none) (hr : rt pd = none) (hp : pa pd = some g) (hg : rt g = some pd) : tmI r (wo Ns pd) ρ lf (va_up rt g none) (va_up pa pd none) (fun a => if lo a = some pd then lo pd else lo a) (fun a => if hi a = some pd then hi pd else hi a) :=
  h.del hpd hl (wo_nodup h.1) (fun a => wo_mem) (by rw [if_neg (by rw [hp]; simp)]) (fun a ha => pw_n (fun q => h.lr (wo_mem.mp ha).1 q ((h.uL hpd hp (wo_mem.mp ha).1 q) ▸ hg))) (fun a ha => by rw [hr]; exact pw_g hg (h.uR hpd hp (wo_mem.mp ha).1)) (fun a ha => pw_ne (h.nP hpd hl hr (wo_mem.mp ha).1) (wo_mem.mp ha).2)
set_option maxHeartbeats 4000000 in
theorem met_TM_delete (l : Launch) (G : gG) (M : gM) (mp : Nat) (t0 : Nat × Nat) (cm : Nat) (r : Option Nat) (n : Nat) (mc : Int32) (ks : Option Nat) (t1 : Nat × Nat) (Ns : List Nat) (kb : Nat → Nat) (vl : Nat → Nat) (lf : Nat → Option Nat) (rt : Nat → Option Nat) (pa : Nat → Option Nat) (co : Nat → Bool) (ky : Nat → Int32) (lo : Nat → Option Nat) (hi : Nat → Option Nat) (p0 : Nat) (hI : tmI r Ns (kyR ky) lf rt pa lo hi) (hS : tmS Ns ky) (hp0 : p0 ∈ Ns) (ht : ¬ (t0.1 = t1.1 ∧ t0.2 = t1.2)) (ht0 : t0.1 ≠ 0) (ht1 : t1.1 ≠ 0) (hM_0 : M mp = some (t0, .inr (24, [.null, .null, .ref cm, va_rf r, .int (nI (n + 1)), .int mc, .null, va_rf ks, .null]))) (hP_0 : tmE M t1 Ns kb vl lf rt pa co) : Met l yJ9_deleteEntry (ws_ yJ9_deleteEntry cJ9_deleteEntry 3 none) ({ frames := 2, cells := 0, slots := 0, locals := 44 }) (gPc G [.ref mp, .ref p0] M) (gQv G (fun M9 k9 => ∃ pd : Nat, ∃ kb1 : Nat → Nat, ∃ vl1 : Nat → Nat, ∃ lf1 : Nat → Option Nat, ∃ rt1 : Nat → Option Nat, ∃ pa1 : Nat → Option Nat, ∃ co1 : Nat → Bool, ∃ r1 : Option Nat, ∃ lo1 : Nat → Option Nat, ∃ hi1 : Nat → Option Nat, M9 mp = some (t0, .inr (24, [.null, .null, .ref cm, va_rf r1, .int (nI n), .int (mc + 1), .null, va_rf ks, .null])) ∧ tmE M9 t1 (wo Ns pd) kb1 vl1 lf1 rt1 pa1 co1 ∧ gFr (gT (fun t => tgE t0.1 t0.2 t ∨ tgE t1.1 t1.2 t)) M M9 ∧ tmI r1 (wo Ns pd) (kyR ky) lf1 rt1 pa1 lo1 hi1 ∧ delK Ns ky kb vl p0 pd kb1 vl1 ∧ pd ∈ Ns ∧ k9 = 0)) 0 0 (gA G) := by
  refine gMet [(0, .ref mp), (1, .ref p0)] (by decide) (Nat.le_of_ble_eq_true rfl) rfl ?_
  intro p e s m below meth c hC
  refine g_aload_n hC dJ9_deleteEntry_0 0 rfl gRef_r 1 rfl ?_
  refine g_dup hC dJ9_deleteEntry_1 rfl 2 rfl ?_
  refine g_get (v := .int mc) hC cI24 hM_0 5 (Nat.le_of_ble_eq_true rfl) q346 rfl dJ9_deleteEntry_2 5 rfl ?_
  refine g_iconst hC dJ9_deleteEntry_5 ki_1 6 rfl ?_
  refine g_iadd hC dJ9_deleteEntry_6 7 rfl ?_
  refine g_put hC cI24 hM_0 5 (Nat.le_of_ble_eq_true rfl) q346 rfl rfl rfl (Nat.le_of_ble_eq_true rfl) dJ9_deleteEntry_7 (fs' := [.null, .null, .ref cm, va_rf r, .int (nI (n + 1)), .int (mc + 1), .null, va_rf ks, .null]) rfl 10 rfl (fun M1 hU2 => ?_)
  refine g_aload_n hC dJ9_deleteEntry_10 0 rfl gRef_r 11 rfl ?_
  refine g_dup hC dJ9_deleteEntry_11 rfl 12 rfl ?_
  refine g_get (v := .int (nI (n + 1))) hC cI24 hU2.1 4 (Nat.le_of_ble_eq_true rfl) q344 rfl dJ9_deleteEntry_12 15 rfl ?_
  refine g_iconst hC dJ9_deleteEntry_15 ki_1 16 rfl ?_
  refine g_isub hC dJ9_deleteEntry_16 17 rfl ?_
  refine g_topi (y := nI n) (nI_s (a := (n + 1)) (b := 1) (c := n) (by omega)) ?_
  refine g_put hC cI24 hU2.1 4 (Nat.le_of_ble_eq_true rfl) q344 rfl rfl rfl (Nat.le_of_ble_eq_true rfl) dJ9_deleteEntry_17 (fs' := [.null, .null, .ref cm, va_rf r, .int (nI n), .int (mc + 1), .null, va_rf ks, .null]) rfl 20 rfl (fun M3 hU4 => ?_)
  have join57 : ∀ (pd : Nat) (kb1 : Nat → Nat) (vl1 : Nat → Nat) (ML : gM), (hpd : pd ∈ Ns) → (hone : lf pd = none ∨ rt pd = none) → (hK : delK Ns ky kb vl p0 pd kb1 vl1) → (ML mp = some (t0, .inr (24, [.null, .null, .ref cm, va_rf r, .int (nI n), .int (mc + 1), .null, va_rf ks, .null]))) → (tmE ML t1 Ns kb1 vl1 lf rt pa co) → gFr (gT (fun t => tgE t0.1 t0.2 t ∨ tgE t1.1 t1.2 t)) M ML → gJ p l e ({ frames := 2, cells := 0, slots := 0, locals := 44 } : Room) s m ([.ref mp, .ref p0] : List Value).toArray below meth c G 3 (MQ below (gQv G (fun M9 k9 => ∃ pd : Nat, ∃ kb1 : Nat → Nat, ∃ vl1 : Nat → Nat, ∃ lf1 : Nat → Option Nat, ∃ rt1 : Nat → Option Nat, ∃ pa1 : Nat → Option Nat, ∃ co1 : Nat → Bool, ∃ r1 : Option Nat, ∃ lo1 : Nat → Option Nat, ∃ hi1 : Nat → Option Nat, M9 mp = some (t0, .inr (24, [.null, .null, .ref cm, va_rf r1, .int (nI n), .int (mc + 1), .null, va_rf ks, .null])) ∧ tmE M9 t1 (wo Ns pd) kb1 vl1 lf1 rt1 pa1 co1 ∧ gFr (gT (fun t => tgE t0.1 t0.2 t ∨ tgE t1.1 t1.2 t)) M M9 ∧ tmI r1 (wo Ns pd) (kyR ky) lf1 rt1 pa1 lo1 hi1 ∧ delK Ns ky kb vl p0 pd kb1 vl1 ∧ pd ∈ Ns ∧ k9 = 0)) ([.ref mp, .ref p0] : List Value).toArray s 0 0 (gA G)) 0 0 ML 57 [(0, .ref mp), (1, .ref pd)] [] := by
    intro pd kb1 vl1 ML hpd hone hK hL_0 hLp_0 hLF
    refine g_aload_n hC dJ9_deleteEntry_57 1 rfl gRef_r 58 rfl ?_
    refine g_get (v := va_rf (lf pd)) hC cI25 (hLp_0 pd hpd) 2 (Nat.le_of_ble_eq_true rfl) q1028 rfl dJ9_deleteEntry_58 61 rfl ?_
    refine g_ifnull hC dJ9_deleteEntry_61 71 rfl 64 rfl (fun e_6 => ?_) (fun x_5 e_6 => ?_)
    · refine g_aload_n hC dJ9_deleteEntry_71 1 rfl gRef_r 72 rfl ?_
      refine g_get (v := va_rf (rt pd)) hC cI25 (hLp_0 pd hpd) 3 (Nat.le_of_ble_eq_true rfl) q1030 rfl dJ9_deleteEntry_72 75 rfl ?_
      refine g_astore_n hC dJ9_deleteEntry_75 rfl gRef_q (Nat.le_of_ble_eq_true rfl) [(2, va_rf (rt pd)), (0, .ref mp), (1, .ref pd)] rfl 76 rfl ?_
      refine g_aload_n hC dJ9_deleteEntry_76 0 rfl gRef_q 77 rfl ?_
      refine g_ifnull hC dJ9_deleteEntry_77 164 rfl 80 rfl (fun e_8 => ?_) (fun x_7 e_8 => ?_)
      · refine g_lv (lv' := [(2, .null), (0, .ref mp), (1, .ref pd)]) (by rw [e_8]; rfl) ?_
        refine g_aload_n hC dJ9_deleteEntry_164 2 rfl gRef_r 165 rfl ?_
        refine g_get (v := va_rf (pa pd)) hC cI25 (hLp_0 pd hpd) 4 (Nat.le_of_ble_eq_true rfl) q1032 rfl dJ9_deleteEntry_165 168 rfl ?_
        refine g_ifnonnull hC dJ9_deleteEntry_168 179 rfl 171 rfl (fun x_9 e_10 => ?_) (fun e_10 => ?_)
        · obtain ⟨hgm, hgc⟩ := hI.2.2.2.2.2.2.2.2.1 pd hpd x_9 e_10
          have hgn : x_9 ≠ pd := hI.nepa hpd e_10
          have hgm0 : x_9 ∈ Ns := hgm
          have hgn0 : x_9 ≠ pd := hgn
          refine g_aload_n hC dJ9_deleteEntry_179 2 rfl gRef_r 180 rfl ?_
          refine g_get (v := .int (bI (co pd))) hC cI25 (hLp_0 pd hpd) 5 (Nat.le_of_ble_eq_true rfl) q1034 rfl dJ9_deleteEntry_180 183 rfl ?_
          refine g_iconst hC dJ9_deleteEntry_183 ki_1 184 rfl ?_
          refine g_icmp_ne hC dJ9_deleteEntry_184 192 rfl 187 rfl (fun c_11 => ?_) (fun c_11 => ?_)
          · replace c_11 : co pd = false := bB_n1 c_11
            refine g_aload_n hC dJ9_deleteEntry_192 2 rfl gRef_r 193 rfl ?_
            refine g_get (v := va_rf (pa pd)) hC cI25 (hLp_0 pd hpd) 4 (Nat.le_of_ble_eq_true rfl) q1032 rfl dJ9_deleteEntry_193 196 rfl ?_
            refine g_topv (y := .ref x_9) (congrArg va_rf (show pa pd = some x_9 from e_10)) ?_
            refine g_ifnull (r := some x_9) hC dJ9_deleteEntry_196 245 rfl 199 rfl (fun q => by cases q) (fun _ _ => ?_)
            refine g_aload_n hC dJ9_deleteEntry_199 2 rfl gRef_r 200 rfl ?_
            refine g_aload_n hC dJ9_deleteEntry_200 2 rfl gRef_r 201 rfl ?_
            refine g_get (v := va_rf (pa pd)) hC cI25 (hLp_0 pd hpd) 4 (Nat.le_of_ble_eq_true rfl) q1032 rfl dJ9_deleteEntry_201 204 rfl ?_
            refine g_topv (y := .ref x_9) (congrArg va_rf (show pa pd = some x_9 from e_10)) ?_
            refine g_get (v := va_rf (lf x_9)) hC cI25 (hLp_0 x_9 hgm) 2 (Nat.le_of_ble_eq_true rfl) q1028 rfl dJ9_deleteEntry_204 207 rfl ?_
            refine g_acmp_ne (rx := some pd) (ry := lf x_9) hC dJ9_deleteEntry_207 221 rfl 210 rfl (fun c_13 => ?_) (fun c_13 => ?_)
            · refine g_aload_n hC dJ9_deleteEntry_221 2 rfl gRef_r 222 rfl ?_
              refine g_aload_n hC dJ9_deleteEntry_222 2 rfl gRef_r 223 rfl ?_
              refine g_get (v := va_rf (pa pd)) hC cI25 (hLp_0 pd hpd) 4 (Nat.le_of_ble_eq_true rfl) q1032 rfl dJ9_deleteEntry_223 226 rfl ?_
              refine g_topv (y := .ref x_9) (congrArg va_rf (show pa pd = some x_9 from e_10)) ?_
              refine g_get (v := va_rf (rt x_9)) hC cI25 (hLp_0 x_9 hgm) 3 (Nat.le_of_ble_eq_true rfl) q1030 rfl dJ9_deleteEntry_226 229 rfl ?_
              refine g_acmp_ne (rx := some pd) (ry := rt x_9) hC dJ9_deleteEntry_229 240 rfl 232 rfl (fun c_14 => ?_) (fun c_14 => ?_)
              · exact absurd hgc (fun q => q.elim (fun z => c_13 z.symm) (fun z => c_14 z.symm))
              · refine g_aload_n hC dJ9_deleteEntry_232 2 rfl gRef_r 233 rfl ?_
                refine g_get (v := va_rf (pa pd)) hC cI25 (hLp_0 pd hpd) 4 (Nat.le_of_ble_eq_true rfl) q1032 rfl dJ9_deleteEntry_233 236 rfl ?_
                refine g_topv (y := .ref x_9) (congrArg va_rf (show pa pd = some x_9 from e_10)) ?_
                refine g_null hC dJ9_deleteEntry_236 237 rfl ?_
                refine g_put hC cI25 (hLp_0 x_9 hgm) 3 (Nat.le_of_ble_eq_true rfl) q1030 rfl rfl rfl (Nat.le_of_ble_eq_true rfl) dJ9_deleteEntry_237 (fs' := [.ref (kb1 x_9), .ref (vl1 x_9), va_rf (lf x_9), .null, va_rf (pa x_9), .int (bI (co x_9))]) rfl 240 rfl (fun M15 hU16 => ?_)
                have hE17 : tmE M15 t1 Ns kb1 vl1 lf (va_up rt x_9 none) pa co := tmE.s3 hLp_0 (v := none) hU16
                refine g_aload_n hC dJ9_deleteEntry_240 2 rfl gRef_r 241 rfl ?_
                refine g_null hC dJ9_deleteEntry_241 242 rfl ?_
                refine g_put hC cI25 (hE17 pd hpd) 4 (Nat.le_of_ble_eq_true rfl) q1032 rfl rfl rfl (Nat.le_of_ble_eq_true rfl) dJ9_deleteEntry_242 (fs' := [.ref (kb1 pd), .ref (vl1 pd), va_rf (lf pd), va_rf ((va_up rt x_9 none) pd), .null, .int (bI (co pd))]) rfl 245 rfl (fun M18 hU19 => ?_)
                have hE20 : tmE M18 t1 Ns kb1 vl1 lf (va_up rt x_9 none) (va_up pa pd none) co := tmE.s4 hE17 (v := none) hU19
                have hE9 : tmE M18 t1 (wo Ns pd) kb1 vl1 lf (va_up rt x_9 none) (va_up pa pd none) co := tmE.sub hE20 (fun a ha => (wo_mem.mp ha).1)
                obtain ⟨loN21, eloN21⟩ : ∃ z, z = (fun a => if lo a = some pd then lo pd else lo a) := ⟨_, rfl⟩
                obtain ⟨hiN21, ehiN21⟩ : ∃ z, z = (fun a => if hi a = some pd then hi pd else hi a) := ⟨_, rfl⟩
                have hI9 : tmI r (wo Ns pd) (kyR ky) lf (va_up rt x_9 none) (va_up pa pd none) loN21 hiN21 := by rw [eloN21, ehiN21]; exact hI.leaf2 hpd e_6 e_8 e_10 c_14.symm
                exact g_vret hC (fun k9 hk9 => ⟨pd, kb1, vl1, lf, va_up rt x_9 none, va_up pa pd none, co, r, loN21, hiN21, (hU19.n (gne_c (hU16.n (gne_c hL_0 (hLp_0 x_9 hgm) (by decide)) hL_0) (hE17 pd hpd) (by decide)) (hU16.n (gne_c hL_0 (hLp_0 x_9 hgm) (by decide)) hL_0)), hE9, (hLF.trans ((gFr.refl.up hU16 (hLp_0 x_9 hgm) (show (fun t => tgE t0.1 t0.2 t ∨ tgE t1.1 t1.2 t) t1 by (try simp only [ndT, tgE, gT, tgR, ndT9, tg0, Prod.mk.injEq]); first | done | omega | (simp; done))).up hU19 (hE17 pd hpd) (show (fun t => tgE t0.1 t0.2 t ∨ tgE t1.1 t1.2 t) t1 by (try simp only [ndT, tgE, gT, tgR, ndT9, tg0, Prod.mk.injEq]); first | done | omega | (simp; done)))), hI9, hK, hpd, (by first | exact Nat.le_zero.mp hk9 | omega)⟩) dJ9_deleteEntry_245 (Nat.le_of_ble_eq_true rfl) (Nat.le_of_ble_eq_true rfl)
            · refine g_aload_n hC dJ9_deleteEntry_210 2 rfl gRef_r 211 rfl ?_
              refine g_get (v := va_rf (pa pd)) hC cI25 (hLp_0 pd hpd) 4 (Nat.le_of_ble_eq_true rfl) q1032 rfl dJ9_deleteEntry_211 214 rfl ?_
              refine g_topv (y := .ref x_9) (congrArg va_rf (show pa pd = some x_9 from e_10)) ?_
              refine g_null hC dJ9_deleteEntry_214 215 rfl ?_
              refine g_put hC cI25 (hLp_0 x_9 hgm) 2 (Nat.le_of_ble_eq_true rfl) q1028 rfl rfl rfl (Nat.le_of_ble_eq_true rfl) dJ9_deleteEntry_215 (fs' := [.ref (kb1 x_9), .ref (vl1 x_9), .null, va_rf (rt x_9), va_rf (pa x_9), .int (bI (co x_9))]) rfl 218 rfl (fun M22 hU23 => ?_)
              have hE24 : tmE M22 t1 Ns kb1 vl1 (va_up lf x_9 none) rt pa co := tmE.s2 hLp_0 (v := none) hU23
              refine g_goto hC dJ9_deleteEntry_218 240 rfl ?_
              refine g_aload_n hC dJ9_deleteEntry_240 2 rfl gRef_r 241 rfl ?_
              refine g_null hC dJ9_deleteEntry_241 242 rfl ?_
              refine g_put hC cI25 (hE24 pd hpd) 4 (Nat.le_of_ble_eq_true rfl) q1032 rfl rfl rfl (Nat.le_of_ble_eq_true rfl) dJ9_deleteEntry_242 (fs' := [.ref (kb1 pd), .ref (vl1 pd), va_rf ((va_up lf x_9 none) pd), va_rf (rt pd), .null, .int (bI (co pd))]) rfl 245 rfl (fun M25 hU26 => ?_)
              have hE27 : tmE M25 t1 Ns kb1 vl1 (va_up lf x_9 none) rt (va_up pa pd none) co := tmE.s4 hE24 (v := none) hU26
              have hE9 : tmE M25 t1 (wo Ns pd) kb1 vl1 (va_up lf x_9 none) rt (va_up pa pd none) co := tmE.sub hE27 (fun a ha => (wo_mem.mp ha).1)
              obtain ⟨loN28, eloN28⟩ : ∃ z, z = (fun a => if lo a = some pd then lo pd else lo a) := ⟨_, rfl⟩
              obtain ⟨hiN28, ehiN28⟩ : ∃ z, z = (fun a => if hi a = some pd then hi pd else hi a) := ⟨_, rfl⟩
              have hI9 : tmI r (wo Ns pd) (kyR ky) (va_up lf x_9 none) rt (va_up pa pd none) loN28 hiN28 := by rw [eloN28, ehiN28]; exact hI.leaf1 hpd e_6 e_8 e_10 c_13.symm
              exact g_vret hC (fun k9 hk9 => ⟨pd, kb1, vl1, va_up lf x_9 none, rt, va_up pa pd none, co, r, loN28, hiN28, (hU26.n (gne_c (hU23.n (gne_c hL_0 (hLp_0 x_9 hgm) (by decide)) hL_0) (hE24 pd hpd) (by decide)) (hU23.n (gne_c hL_0 (hLp_0 x_9 hgm) (by decide)) hL_0)), hE9, (hLF.trans ((gFr.refl.up hU23 (hLp_0 x_9 hgm) (show (fun t => tgE t0.1 t0.2 t ∨ tgE t1.1 t1.2 t) t1 by (try simp only [ndT, tgE, gT, tgR, ndT9, tg0, Prod.mk.injEq]); first | done | omega | (simp; done))).up hU26 (hE24 pd hpd) (show (fun t => tgE t0.1 t0.2 t ∨ tgE t1.1 t1.2 t) t1 by (try simp only [ndT, tgE, gT, tgR, ndT9, tg0, Prod.mk.injEq]); first | done | omega | (simp; done)))), hI9, hK, hpd, (by first | exact Nat.le_zero.mp hk9 | omega)⟩) dJ9_deleteEntry_245 (Nat.le_of_ble_eq_true rfl) (Nat.le_of_ble_eq_true rfl)
          · replace c_11 : co pd = true := bB_e1 c_11
            refine g_aload_n hC dJ9_deleteEntry_187 1 rfl gRef_r 188 rfl ?_
            refine g_aload_n hC dJ9_deleteEntry_188 2 rfl gRef_r 189 rfl ?_
            refine g_callv (g_V (As := [.ref pd]) (rest := []) hC mvJ9_fixAfterDeletion q1094 (gOf.of hC.K cI24 hL_0) (met_TM_fixD l G ML mp t0 cm r n (mc + 1) ks t1 Ns kb1 vl1 lf rt pa co (kyR ky) lo hi pd True hI hpd ht (fun _ => ⟨e_6, e_8⟩) hL_0 hLp_0) ⟨rfl, rfl⟩ ⟨(Nat.le_of_ble_eq_true rfl), (Nat.le_of_ble_eq_true rfl)⟩ rfl (Nat.le_of_ble_eq_true rfl) dJ9_deleteEntry_189 rfl ⟨(Nat.le_of_ble_eq_true rfl), (Nat.le_of_ble_eq_true rfl)⟩) 0 (Nat.le_of_ble_eq_true rfl) 0 (Nat.le_of_ble_eq_true rfl) 192 rfl (fun M29 k30 hp31 => ?_)
            obtain ⟨lf1_33, rt1_34, pa1_35, co1_36, r1_37, lo1_38, hi1_39, hc40, hpd41, hF42, hq43, hq44, hk45⟩ := hp31
            refine g_aload_n hC dJ9_deleteEntry_192 2 rfl gRef_r 193 rfl ?_
            refine g_get (v := va_rf (pa1_35 pd)) hC cI25 (hpd41 pd hpd) 4 (Nat.le_of_ble_eq_true rfl) q1032 rfl dJ9_deleteEntry_193 196 rfl ?_
            refine g_ifnull hC dJ9_deleteEntry_196 245 rfl 199 rfl (fun e_47 => ?_) (fun x_46 e_47 => ?_)
            · exact absurd (hq43.only hpd (hq44 trivial).1 (hq44 trivial).2 e_47 hgm0) hgn0
            · obtain ⟨hgm, hgc⟩ := hq43.2.2.2.2.2.2.2.2.1 pd hpd x_46 e_47
              have hgn : x_46 ≠ pd := hq43.nepa hpd e_47
              refine g_aload_n hC dJ9_deleteEntry_199 2 rfl gRef_r 200 rfl ?_
              refine g_aload_n hC dJ9_deleteEntry_200 2 rfl gRef_r 201 rfl ?_
              refine g_get (v := va_rf (pa1_35 pd)) hC cI25 (hpd41 pd hpd) 4 (Nat.le_of_ble_eq_true rfl) q1032 rfl dJ9_deleteEntry_201 204 rfl ?_
              refine g_topv (y := .ref x_46) (congrArg va_rf (show pa1_35 pd = some x_46 from e_47)) ?_
              refine g_get (v := va_rf (lf1_33 x_46)) hC cI25 (hpd41 x_46 hgm) 2 (Nat.le_of_ble_eq_true rfl) q1028 rfl dJ9_deleteEntry_204 207 rfl ?_
              refine g_acmp_ne (rx := some pd) (ry := lf1_33 x_46) hC dJ9_deleteEntry_207 221 rfl 210 rfl (fun c_48 => ?_) (fun c_48 => ?_)
              · refine g_aload_n hC dJ9_deleteEntry_221 2 rfl gRef_r 222 rfl ?_
                refine g_aload_n hC dJ9_deleteEntry_222 2 rfl gRef_r 223 rfl ?_
                refine g_get (v := va_rf (pa1_35 pd)) hC cI25 (hpd41 pd hpd) 4 (Nat.le_of_ble_eq_true rfl) q1032 rfl dJ9_deleteEntry_223 226 rfl ?_
                refine g_topv (y := .ref x_46) (congrArg va_rf (show pa1_35 pd = some x_46 from e_47)) ?_
                refine g_get (v := va_rf (rt1_34 x_46)) hC cI25 (hpd41 x_46 hgm) 3 (Nat.le_of_ble_eq_true rfl) q1030 rfl dJ9_deleteEntry_226 229 rfl ?_
                refine g_acmp_ne (rx := some pd) (ry := rt1_34 x_46) hC dJ9_deleteEntry_229 240 rfl 232 rfl (fun c_49 => ?_) (fun c_49 => ?_)
                · exact absurd hgc (fun q => q.elim (fun z => c_48 z.symm) (fun z => c_49 z.symm))
                · refine g_aload_n hC dJ9_deleteEntry_232 2 rfl gRef_r 233 rfl ?_
                  refine g_get (v := va_rf (pa1_35 pd)) hC cI25 (hpd41 pd hpd) 4 (Nat.le_of_ble_eq_true rfl) q1032 rfl dJ9_deleteEntry_233 236 rfl ?_
                  refine g_topv (y := .ref x_46) (congrArg va_rf (show pa1_35 pd = some x_46 from e_47)) ?_
                  refine g_null hC dJ9_deleteEntry_236 237 rfl ?_
                  refine g_put hC cI25 (hpd41 x_46 hgm) 3 (Nat.le_of_ble_eq_true rfl) q1030 rfl rfl rfl (Nat.le_of_ble_eq_true rfl) dJ9_deleteEntry_237 (fs' := [.ref (kb1 x_46), .ref (vl1 x_46), va_rf (lf1_33 x_46), .null, va_rf (pa1_35 x_46), .int (bI (co1_36 x_46))]) rfl 240 rfl (fun M50 hU51 => ?_)
                  have hE52 : tmE M50 t1 Ns kb1 vl1 lf1_33 (va_up rt1_34 x_46 none) pa1_35 co1_36 := tmE.s3 hpd41 (v := none) hU51
                  refine g_aload_n hC dJ9_deleteEntry_240 2 rfl gRef_r 241 rfl ?_
                  refine g_null hC dJ9_deleteEntry_241 242 rfl ?_
                  refine g_put hC cI25 (hE52 pd hpd) 4 (Nat.le_of_ble_eq_true rfl) q1032 rfl rfl rfl (Nat.le_of_ble_eq_true rfl) dJ9_deleteEntry_242 (fs' := [.ref (kb1 pd), .ref (vl1 pd), va_rf (lf1_33 pd), va_rf ((va_up rt1_34 x_46 none) pd), .null, .int (bI (co1_36 pd))]) rfl 245 rfl (fun M53 hU54 => ?_)
                  have hE55 : tmE M53 t1 Ns kb1 vl1 lf1_33 (va_up rt1_34 x_46 none) (va_up pa1_35 pd none) co1_36 := tmE.s4 hE52 (v := none) hU54
                  have hH56 := (hU54.n (gne_c (hU51.n (gne_c hc40 (hpd41 x_46 hgm) (by decide)) hc40) (hE52 pd hpd) (by decide)) (hU51.n (gne_c hc40 (hpd41 x_46 hgm) (by decide)) hc40))
                  have hE9 : tmE M53 t1 (wo Ns pd) kb1 vl1 lf1_33 (va_up rt1_34 x_46 none) (va_up pa1_35 pd none) co1_36 := tmE.sub hE55 (fun a ha => (wo_mem.mp ha).1)
                  obtain ⟨loN57, eloN57⟩ : ∃ z, z = (fun a => if lo1_38 a = some pd then lo1_38 pd else lo1_38 a) := ⟨_, rfl⟩
                  obtain ⟨hiN57, ehiN57⟩ : ∃ z, z = (fun a => if hi1_39 a = some pd then hi1_39 pd else hi1_39 a) := ⟨_, rfl⟩
                  have hI9 : tmI r1_37 (wo Ns pd) (kyR ky) lf1_33 (va_up rt1_34 x_46 none) (va_up pa1_35 pd none) loN57 hiN57 := by rw [eloN57, ehiN57]; exact hq43.leaf2 hpd (hq44 trivial).1 (hq44 trivial).2 e_47 c_49.symm
                  exact g_vret hC (fun k9 hk9 => ⟨pd, kb1, vl1, lf1_33, va_up rt1_34 x_46 none, va_up pa1_35 pd none, co1_36, r1_37, loN57, hiN57, hH56, hE9, (hLF.trans (((gFr.refl.trans (hF42.mono (fun b t h => by obtain ⟨u9, v9⟩ := t; revert h; (try simp only [ndT, tgE, gT, tgR, ndT9, tg0, Prod.mk.injEq]); first | done | omega | (simp; done) | (intro h; simp_all; done)))).up hU51 (hpd41 x_46 hgm) (show (fun t => tgE t0.1 t0.2 t ∨ tgE t1.1 t1.2 t) t1 by (try simp only [ndT, tgE, gT, tgR, ndT9, tg0, Prod.mk.injEq]); first | done | omega | (simp; done))).up hU54 (hE52 pd hpd) (show (fun t => tgE t0.1 t0.2 t ∨ tgE t1.1 t1.2 t) t1 by (try simp only [ndT, tgE, gT, tgR, ndT9, tg0, Prod.mk.injEq]); first | done | omega | (simp; done)))), hI9, hK, hpd, (by first | exact Nat.le_zero.mp hk9 | omega)⟩) dJ9_deleteEntry_245 (Nat.le_of_ble_eq_true rfl) (Nat.le_of_ble_eq_true rfl)
              · refine g_aload_n hC dJ9_deleteEntry_210 2 rfl gRef_r 211 rfl ?_
                refine g_get (v := va_rf (pa1_35 pd)) hC cI25 (hpd41 pd hpd) 4 (Nat.le_of_ble_eq_true rfl) q1032 rfl dJ9_deleteEntry_211 214 rfl ?_
                refine g_topv (y := .ref x_46) (congrArg va_rf (show pa1_35 pd = some x_46 from e_47)) ?_
                refine g_null hC dJ9_deleteEntry_214 215 rfl ?_
                refine g_put hC cI25 (hpd41 x_46 hgm) 2 (Nat.le_of_ble_eq_true rfl) q1028 rfl rfl rfl (Nat.le_of_ble_eq_true rfl) dJ9_deleteEntry_215 (fs' := [.ref (kb1 x_46), .ref (vl1 x_46), .null, va_rf (rt1_34 x_46), va_rf (pa1_35 x_46), .int (bI (co1_36 x_46))]) rfl 218 rfl (fun M58 hU59 => ?_)
                have hE60 : tmE M58 t1 Ns kb1 vl1 (va_up lf1_33 x_46 none) rt1_34 pa1_35 co1_36 := tmE.s2 hpd41 (v := none) hU59
                refine g_goto hC dJ9_deleteEntry_218 240 rfl ?_
                refine g_aload_n hC dJ9_deleteEntry_240 2 rfl gRef_r 241 rfl ?_
                refine g_null hC dJ9_deleteEntry_241 242 rfl ?_
                refine g_put hC cI25 (hE60 pd hpd) 4 (Nat.le_of_ble_eq_true rfl) q1032 rfl rfl rfl (Nat.le_of_ble_eq_true rfl) dJ9_deleteEntry_242 (fs' := [.ref (kb1 pd), .ref (vl1 pd), va_rf ((va_up lf1_33 x_46 none) pd), va_rf (rt1_34 pd), .null, .int (bI (co1_36 pd))]) rfl 245 rfl (fun M61 hU62 => ?_)
                have hE63 : tmE M61 t1 Ns kb1 vl1 (va_up lf1_33 x_46 none) rt1_34 (va_up pa1_35 pd none) co1_36 := tmE.s4 hE60 (v := none) hU62
                have hH64 := (hU62.n (gne_c (hU59.n (gne_c hc40 (hpd41 x_46 hgm) (by decide)) hc40) (hE60 pd hpd) (by decide)) (hU59.n (gne_c hc40 (hpd41 x_46 hgm) (by decide)) hc40))
                have hE9 : tmE M61 t1 (wo Ns pd) kb1 vl1 (va_up lf1_33 x_46 none) rt1_34 (va_up pa1_35 pd none) co1_36 := tmE.sub hE63 (fun a ha => (wo_mem.mp ha).1)
                obtain ⟨loN65, eloN65⟩ : ∃ z, z = (fun a => if lo1_38 a = some pd then lo1_38 pd else lo1_38 a) := ⟨_, rfl⟩
                obtain ⟨hiN65, ehiN65⟩ : ∃ z, z = (fun a => if hi1_39 a = some pd then hi1_39 pd else hi1_39 a) := ⟨_, rfl⟩
                have hI9 : tmI r1_37 (wo Ns pd) (kyR ky) (va_up lf1_33 x_46 none) rt1_34 (va_up pa1_35 pd none) loN65 hiN65 := by rw [eloN65, ehiN65]; exact hq43.leaf1 hpd (hq44 trivial).1 (hq44 trivial).2 e_47 c_48.symm
                exact g_vret hC (fun k9 hk9 => ⟨pd, kb1, vl1, va_up lf1_33 x_46 none, rt1_34, va_up pa1_35 pd none, co1_36, r1_37, loN65, hiN65, hH64, hE9, (hLF.trans (((gFr.refl.trans (hF42.mono (fun b t h => by obtain ⟨u9, v9⟩ := t; revert h; (try simp only [ndT, tgE, gT, tgR, ndT9, tg0, Prod.mk.injEq]); first | done | omega | (simp; done) | (intro h; simp_all; done)))).up hU59 (hpd41 x_46 hgm) (show (fun t => tgE t0.1 t0.2 t ∨ tgE t1.1 t1.2 t) t1 by (try simp only [ndT, tgE, gT, tgR, ndT9, tg0, Prod.mk.injEq]); first | done | omega | (simp; done))).up hU62 (hE60 pd hpd) (show (fun t => tgE t0.1 t0.2 t ∨ tgE t1.1 t1.2 t) t1 by (try simp only [ndT, tgE, gT, tgR, ndT9, tg0, Prod.mk.injEq]); first | done | omega | (simp; done)))), hI9, hK, hpd, (by first | exact Nat.le_zero.mp hk9 | omega)⟩) dJ9_deleteEntry_245 (Nat.le_of_ble_eq_true rfl) (Nat.le_of_ble_eq_true rfl)
        · refine g_aload_n hC dJ9_deleteEntry_171 1 rfl gRef_r 172 rfl ?_
          refine g_null hC dJ9_deleteEntry_172 173 rfl ?_
          refine g_put hC cI24 hL_0 3 (Nat.le_of_ble_eq_true rfl) q343 rfl rfl rfl (Nat.le_of_ble_eq_true rfl) dJ9_deleteEntry_173 (fs' := [.null, .null, .ref cm, .null, .int (nI n), .int (mc + 1), .null, va_rf ks, .null]) rfl 176 rfl (fun M66 hU67 => ?_)
          refine g_goto hC dJ9_deleteEntry_176 245 rfl ?_
          have hE9 : tmE M66 t1 (wo Ns pd) kb1 vl1 lf rt pa co := tmE.sub (tmE.fr hLp_0 (gFr.refl.up hU67 hL_0 (show (fun t => ¬ (tgE t1.1 t1.2) t) t0 by (try simp only [ndT, tgE, gT, tgR, ndT9, tg0, Prod.mk.injEq]); first | done | omega | (simp; done)))) (fun a ha => (wo_mem.mp ha).1)
          obtain ⟨loN68, eloN68⟩ : ∃ z, z = (fun a => if lo a = some pd then lo pd else lo a) := ⟨_, rfl⟩
          obtain ⟨hiN68, ehiN68⟩ : ∃ z, z = (fun a => if hi a = some pd then hi pd else hi a) := ⟨_, rfl⟩
          have hI9 : tmI none (wo Ns pd) (kyR ky) lf rt pa loN68 hiN68 := by rw [eloN68, ehiN68]; exact hI.leaf0 hpd e_6 e_8 e_10
          exact g_vret hC (fun k9 hk9 => ⟨pd, kb1, vl1, lf, rt, pa, co, none, loN68, hiN68, hU67.1, hE9, (hLF.trans (gFr.refl.up hU67 hL_0 (show (fun t => tgE t0.1 t0.2 t ∨ tgE t1.1 t1.2 t) t0 by (try simp only [ndT, tgE, gT, tgR, ndT9, tg0, Prod.mk.injEq]); first | done | omega | (simp; done)))), hI9, hK, hpd, (by first | exact Nat.le_zero.mp hk9 | omega)⟩) dJ9_deleteEntry_245 (Nat.le_of_ble_eq_true rfl) (Nat.le_of_ble_eq_true rfl)
      · refine g_lv (lv' := [(2, .ref x_7), (0, .ref mp), (1, .ref pd)]) (by rw [e_8]; rfl) ?_
        obtain ⟨hcm, hcp⟩ := hI.rtm hpd e_8
        have hcn : x_7 ≠ pd := Ne.symm (hI.nepa hcm hcp)
        refine g_aload_n hC dJ9_deleteEntry_80 0 rfl gRef_r 81 rfl ?_
        refine g_aload_n hC dJ9_deleteEntry_81 2 rfl gRef_r 82 rfl ?_
        refine g_get (v := va_rf (pa pd)) hC cI25 (hLp_0 pd hpd) 4 (Nat.le_of_ble_eq_true rfl) q1032 rfl dJ9_deleteEntry_82 85 rfl ?_
        refine g_put hC cI25 (hLp_0 x_7 hcm) 4 (Nat.le_of_ble_eq_true rfl) q1032 rfl gq_n gq_f (Nat.le_of_ble_eq_true rfl) dJ9_deleteEntry_85 (fs' := [.ref (kb1 x_7), .ref (vl1 x_7), va_rf (lf x_7), va_rf (rt x_7), va_rf (pa pd), .int (bI (co x_7))]) rfl 88 rfl (fun M69 hU70 => ?_)
        have hE71 : tmE M69 t1 Ns kb1 vl1 lf rt (va_up pa x_7 (pa pd)) co := tmE.s4 hLp_0 (v := pa pd) hU70
        refine g_aload_n hC dJ9_deleteEntry_88 2 rfl gRef_r 89 rfl ?_
        refine g_get (v := va_rf ((va_up pa x_7 (pa pd)) pd)) hC cI25 (hE71 pd hpd) 4 (Nat.le_of_ble_eq_true rfl) q1032 rfl dJ9_deleteEntry_89 92 rfl ?_
        refine g_topv (y := va_rf (pa pd)) (congrArg va_rf (show (va_up pa x_7 (pa pd)) pd = pa pd from (by rw [va_up_ne _ _ (Ne.symm hcn)]))) ?_
        refine g_ifnonnull hC dJ9_deleteEntry_92 103 rfl 95 rfl (fun x_72 e_73 => ?_) (fun e_73 => ?_)
        · obtain ⟨hgm, hgc⟩ := hI.2.2.2.2.2.2.2.2.1 pd hpd x_72 e_73
          have hgn : x_72 ≠ pd := hI.nepa hpd e_73
          have hgc9 : x_72 ≠ x_7 := hI.nepa2 hcm hcp e_73
          refine g_aload_n hC dJ9_deleteEntry_103 2 rfl gRef_r 104 rfl ?_
          refine g_aload_n hC dJ9_deleteEntry_104 2 rfl gRef_r 105 rfl ?_
          refine g_get (v := va_rf ((va_up pa x_7 (pa pd)) pd)) hC cI25 (hE71 pd hpd) 4 (Nat.le_of_ble_eq_true rfl) q1032 rfl dJ9_deleteEntry_105 108 rfl ?_
          refine g_topv (y := .ref x_72) (congrArg va_rf (show (va_up pa x_7 (pa pd)) pd = some x_72 from (by rw [va_up_ne _ _ (Ne.symm hcn)]; exact e_73))) ?_
          refine g_get (v := va_rf (lf x_72)) hC cI25 (hE71 x_72 hgm) 2 (Nat.le_of_ble_eq_true rfl) q1028 rfl dJ9_deleteEntry_108 111 rfl ?_
          refine g_acmp_ne (rx := some pd) (ry := lf x_72) hC dJ9_deleteEntry_111 125 rfl 114 rfl (fun c_74 => ?_) (fun c_74 => ?_)
          · refine g_aload_n hC dJ9_deleteEntry_125 2 rfl gRef_r 126 rfl ?_
            refine g_get (v := va_rf ((va_up pa x_7 (pa pd)) pd)) hC cI25 (hE71 pd hpd) 4 (Nat.le_of_ble_eq_true rfl) q1032 rfl dJ9_deleteEntry_126 129 rfl ?_
            refine g_topv (y := .ref x_72) (congrArg va_rf (show (va_up pa x_7 (pa pd)) pd = some x_72 from (by rw [va_up_ne _ _ (Ne.symm hcn)]; exact e_73))) ?_
            refine g_aload_n hC dJ9_deleteEntry_129 0 rfl gRef_r 130 rfl ?_
            refine g_put hC cI25 (hE71 x_72 hgm) 3 (Nat.le_of_ble_eq_true rfl) q1030 rfl rfl rfl (Nat.le_of_ble_eq_true rfl) dJ9_deleteEntry_130 (fs' := [.ref (kb1 x_72), .ref (vl1 x_72), va_rf (lf x_72), .ref x_7, va_rf ((va_up pa x_7 (pa pd)) x_72), .int (bI (co x_72))]) rfl 133 rfl (fun M75 hU76 => ?_)
            have hE77 : tmE M75 t1 Ns kb1 vl1 lf (va_up rt x_72 (some x_7)) (va_up pa x_7 (pa pd)) co := tmE.s3 hE71 (v := some x_7) hU76
            refine g_aload_n hC dJ9_deleteEntry_133 2 rfl gRef_r 134 rfl ?_
            refine g_aload_n hC dJ9_deleteEntry_134 2 rfl gRef_r 135 rfl ?_
            refine g_aload_n hC dJ9_deleteEntry_135 2 rfl gRef_r 136 rfl ?_
            refine g_null hC dJ9_deleteEntry_136 137 rfl ?_
            refine g_dup_x1 hC dJ9_deleteEntry_137 rfl rfl 138 rfl ?_
            refine g_put hC cI25 (hE77 pd hpd) 4 (Nat.le_of_ble_eq_true rfl) q1032 rfl rfl rfl (Nat.le_of_ble_eq_true rfl) dJ9_deleteEntry_138 (fs' := [.ref (kb1 pd), .ref (vl1 pd), va_rf (lf pd), va_rf ((va_up rt x_72 (some x_7)) pd), .null, .int (bI (co pd))]) rfl 141 rfl (fun M78 hU79 => ?_)
            have hE80 : tmE M78 t1 Ns kb1 vl1 lf (va_up rt x_72 (some x_7)) (va_up (va_up pa x_7 (pa pd)) pd none) co := tmE.s4 hE77 (v := none) hU79
            have hH81 := (hU79.n (gne_c (hU76.n (gne_c (hU70.n (gne_c hL_0 (hLp_0 x_7 hcm) (by decide)) hL_0) (hE71 x_72 hgm) (by decide)) (hU70.n (gne_c hL_0 (hLp_0 x_7 hcm) (by decide)) hL_0)) (hE77 pd hpd) (by decide)) (hU76.n (gne_c (hU70.n (gne_c hL_0 (hLp_0 x_7 hcm) (by decide)) hL_0) (hE71 x_72 hgm) (by decide)) (hU70.n (gne_c hL_0 (hLp_0 x_7 hcm) (by decide)) hL_0)))
            refine g_dup_x1 hC dJ9_deleteEntry_141 rfl rfl 142 rfl ?_
            refine g_put hC cI25 (hE80 pd hpd) 3 (Nat.le_of_ble_eq_true rfl) q1030 rfl rfl rfl (Nat.le_of_ble_eq_true rfl) dJ9_deleteEntry_142 (fs' := [.ref (kb1 pd), .ref (vl1 pd), va_rf (lf pd), .null, va_rf ((va_up (va_up pa x_7 (pa pd)) pd none) pd), .int (bI (co pd))]) rfl 145 rfl (fun M82 hU83 => ?_)
            have hE84 : tmE M82 t1 Ns kb1 vl1 lf (va_up (va_up rt x_72 (some x_7)) pd none) (va_up (va_up pa x_7 (pa pd)) pd none) co := tmE.s3 hE80 (v := none) hU83
            refine g_put hC cI25 (hE84 pd hpd) 2 (Nat.le_of_ble_eq_true rfl) q1028 rfl rfl rfl (Nat.le_of_ble_eq_true rfl) dJ9_deleteEntry_145 (fs' := [.ref (kb1 pd), .ref (vl1 pd), .null, va_rf ((va_up (va_up rt x_72 (some x_7)) pd none) pd), va_rf ((va_up (va_up pa x_7 (pa pd)) pd none) pd), .int (bI (co pd))]) rfl 148 rfl (fun M85 hU86 => ?_)
            have hE87 : tmE M85 t1 Ns kb1 vl1 (va_up lf pd none) (va_up (va_up rt x_72 (some x_7)) pd none) (va_up (va_up pa x_7 (pa pd)) pd none) co := tmE.s2 hE84 (v := none) hU86
            refine g_aload_n hC dJ9_deleteEntry_148 2 rfl gRef_r 149 rfl ?_
            refine g_get (v := .int (bI (co pd))) hC cI25 (hE87 pd hpd) 5 (Nat.le_of_ble_eq_true rfl) q1034 rfl dJ9_deleteEntry_149 152 rfl ?_
            refine g_iconst hC dJ9_deleteEntry_152 ki_1 153 rfl ?_
            refine g_icmp_ne hC dJ9_deleteEntry_153 245 rfl 156 rfl (fun c_88 => ?_) (fun c_88 => ?_)
            · replace c_88 : co pd = false := bB_n1 c_88
              have hE9 : tmE M85 t1 (wo Ns pd) kb1 vl1 (va_up lf pd none) (va_up (va_up rt x_72 (some x_7)) pd none) (va_up (va_up pa x_7 (pa pd)) pd none) co := tmE.sub hE87 (fun a ha => (wo_mem.mp ha).1)
              obtain ⟨loN89, eloN89⟩ : ∃ z, z = (fun a => if lo a = some pd then lo pd else lo a) := ⟨_, rfl⟩
              obtain ⟨hiN89, ehiN89⟩ : ∃ z, z = (fun a => if hi a = some pd then hi pd else hi a) := ⟨_, rfl⟩
              have hI9 : tmI r (wo Ns pd) (kyR ky) (va_up lf pd none) (va_up (va_up rt x_72 (some x_7)) pd none) (va_up (va_up pa x_7 (pa pd)) pd none) loN89 hiN89 := by rw [eloN89, ehiN89]; exact hI.cut2 hpd e_6 e_8 e_73 (hgc.resolve_left (fun z => c_74 z.symm))
              exact g_vret hC (fun k9 hk9 => ⟨pd, kb1, vl1, va_up lf pd none, va_up (va_up rt x_72 (some x_7)) pd none, va_up (va_up pa x_7 (pa pd)) pd none, co, r, loN89, hiN89, (hU86.n (gne_c (hU83.n (gne_c hH81 (hE80 pd hpd) (by decide)) hH81) (hE84 pd hpd) (by decide)) (hU83.n (gne_c hH81 (hE80 pd hpd) (by decide)) hH81)), hE9, (hLF.trans (((((gFr.refl.up hU70 (hLp_0 x_7 hcm) (show (fun t => tgE t0.1 t0.2 t ∨ tgE t1.1 t1.2 t) t1 by (try simp only [ndT, tgE, gT, tgR, ndT9, tg0, Prod.mk.injEq]); first | done | omega | (simp; done))).up hU76 (hE71 x_72 hgm) (show (fun t => tgE t0.1 t0.2 t ∨ tgE t1.1 t1.2 t) t1 by (try simp only [ndT, tgE, gT, tgR, ndT9, tg0, Prod.mk.injEq]); first | done | omega | (simp; done))).up hU79 (hE77 pd hpd) (show (fun t => tgE t0.1 t0.2 t ∨ tgE t1.1 t1.2 t) t1 by (try simp only [ndT, tgE, gT, tgR, ndT9, tg0, Prod.mk.injEq]); first | done | omega | (simp; done))).up hU83 (hE80 pd hpd) (show (fun t => tgE t0.1 t0.2 t ∨ tgE t1.1 t1.2 t) t1 by (try simp only [ndT, tgE, gT, tgR, ndT9, tg0, Prod.mk.injEq]); first | done | omega | (simp; done))).up hU86 (hE84 pd hpd) (show (fun t => tgE t0.1 t0.2 t ∨ tgE t1.1 t1.2 t) t1 by (try simp only [ndT, tgE, gT, tgR, ndT9, tg0, Prod.mk.injEq]); first | done | omega | (simp; done)))), hI9, hK, hpd, (by first | exact Nat.le_zero.mp hk9 | omega)⟩) dJ9_deleteEntry_245 (Nat.le_of_ble_eq_true rfl) (Nat.le_of_ble_eq_true rfl)
            · replace c_88 : co pd = true := bB_e1 c_88
              have hE9 : tmE M85 t1 (wo Ns pd) kb1 vl1 (va_up lf pd none) (va_up (va_up rt x_72 (some x_7)) pd none) (va_up (va_up pa x_7 (pa pd)) pd none) co := tmE.sub hE87 (fun a ha => (wo_mem.mp ha).1)
              obtain ⟨loN90, eloN90⟩ : ∃ z, z = (fun a => if lo a = some pd then lo pd else lo a) := ⟨_, rfl⟩
              obtain ⟨hiN90, ehiN90⟩ : ∃ z, z = (fun a => if hi a = some pd then hi pd else hi a) := ⟨_, rfl⟩
              have hI9 : tmI r (wo Ns pd) (kyR ky) (va_up lf pd none) (va_up (va_up rt x_72 (some x_7)) pd none) (va_up (va_up pa x_7 (pa pd)) pd none) loN90 hiN90 := by rw [eloN90, ehiN90]; exact hI.cut2 hpd e_6 e_8 e_73 (hgc.resolve_left (fun z => c_74 z.symm))
              have hc9m : x_7 ∈ wo Ns pd := wo_mem.mpr ⟨hcm, hcn⟩
              refine g_aload_n hC dJ9_deleteEntry_156 1 rfl gRef_r 157 rfl ?_
              refine g_aload_n hC dJ9_deleteEntry_157 0 rfl gRef_r 158 rfl ?_
              refine g_callv (g_V (As := [.ref x_7]) (rest := []) hC mvJ9_fixAfterDeletion q1094 (gOf.of hC.K cI24 (hU86.n (gne_c (hU83.n (gne_c hH81 (hE80 pd hpd) (by decide)) hH81) (hE84 pd hpd) (by decide)) (hU83.n (gne_c hH81 (hE80 pd hpd) (by decide)) hH81))) (met_TM_fixD l G M85 mp t0 cm r n (mc + 1) ks t1 (wo Ns pd) kb1 vl1 (va_up lf pd none) (va_up (va_up rt x_72 (some x_7)) pd none) (va_up (va_up pa x_7 (pa pd)) pd none) co (kyR ky) loN90 hiN90 x_7 False hI9 hc9m ht (fun q => q.elim) (hU86.n (gne_c (hU83.n (gne_c hH81 (hE80 pd hpd) (by decide)) hH81) (hE84 pd hpd) (by decide)) (hU83.n (gne_c hH81 (hE80 pd hpd) (by decide)) hH81)) hE9) ⟨rfl, rfl⟩ ⟨(Nat.le_of_ble_eq_true rfl), (Nat.le_of_ble_eq_true rfl)⟩ rfl (Nat.le_of_ble_eq_true rfl) dJ9_deleteEntry_158 rfl ⟨(Nat.le_of_ble_eq_true rfl), (Nat.le_of_ble_eq_true rfl)⟩) 0 (Nat.le_of_ble_eq_true rfl) 0 (Nat.le_of_ble_eq_true rfl) 161 rfl (fun M91 k92 hp93 => ?_)
              obtain ⟨lf1_95, rt1_96, pa1_97, co1_98, r1_99, lo1_100, hi1_101, hc102, hpd103, hF104, hq105, hq106, hk107⟩ := hp93
              refine g_goto hC dJ9_deleteEntry_161 245 rfl ?_
              exact g_vret hC (fun k9 hk9 => ⟨pd, kb1, vl1, lf1_95, rt1_96, pa1_97, co1_98, r1_99, lo1_100, hi1_101, hc102, hpd103, (hLF.trans ((((((gFr.refl.up hU70 (hLp_0 x_7 hcm) (show (fun t => tgE t0.1 t0.2 t ∨ tgE t1.1 t1.2 t) t1 by (try simp only [ndT, tgE, gT, tgR, ndT9, tg0, Prod.mk.injEq]); first | done | omega | (simp; done))).up hU76 (hE71 x_72 hgm) (show (fun t => tgE t0.1 t0.2 t ∨ tgE t1.1 t1.2 t) t1 by (try simp only [ndT, tgE, gT, tgR, ndT9, tg0, Prod.mk.injEq]); first | done | omega | (simp; done))).up hU79 (hE77 pd hpd) (show (fun t => tgE t0.1 t0.2 t ∨ tgE t1.1 t1.2 t) t1 by (try simp only [ndT, tgE, gT, tgR, ndT9, tg0, Prod.mk.injEq]); first | done | omega | (simp; done))).up hU83 (hE80 pd hpd) (show (fun t => tgE t0.1 t0.2 t ∨ tgE t1.1 t1.2 t) t1 by (try simp only [ndT, tgE, gT, tgR, ndT9, tg0, Prod.mk.injEq]); first | done | omega | (simp; done))).up hU86 (hE84 pd hpd) (show (fun t => tgE t0.1 t0.2 t ∨ tgE t1.1 t1.2 t) t1 by (try simp only [ndT, tgE, gT, tgR, ndT9, tg0, Prod.mk.injEq]); first | done | omega | (simp; done))).trans (hF104.mono (fun b t h => by obtain ⟨u9, v9⟩ := t; revert h; (try simp only [ndT, tgE, gT, tgR, ndT9, tg0, Prod.mk.injEq]); first | done | omega | (simp; done) | (intro h; simp_all; done))))), hq105, hK, hpd, (by first | exact Nat.le_zero.mp hk9 | omega)⟩) dJ9_deleteEntry_245 (Nat.le_of_ble_eq_true rfl) (Nat.le_of_ble_eq_true rfl)
          · refine g_aload_n hC dJ9_deleteEntry_114 2 rfl gRef_r 115 rfl ?_
            refine g_get (v := va_rf ((va_up pa x_7 (pa pd)) pd)) hC cI25 (hE71 pd hpd) 4 (Nat.le_of_ble_eq_true rfl) q1032 rfl dJ9_deleteEntry_115 118 rfl ?_
            refine g_topv (y := .ref x_72) (congrArg va_rf (show (va_up pa x_7 (pa pd)) pd = some x_72 from (by rw [va_up_ne _ _ (Ne.symm hcn)]; exact e_73))) ?_
            refine g_aload_n hC dJ9_deleteEntry_118 0 rfl gRef_r 119 rfl ?_
            refine g_put hC cI25 (hE71 x_72 hgm) 2 (Nat.le_of_ble_eq_true rfl) q1028 rfl rfl rfl (Nat.le_of_ble_eq_true rfl) dJ9_deleteEntry_119 (fs' := [.ref (kb1 x_72), .ref (vl1 x_72), .ref x_7, va_rf (rt x_72), va_rf ((va_up pa x_7 (pa pd)) x_72), .int (bI (co x_72))]) rfl 122 rfl (fun M108 hU109 => ?_)
            have hE110 : tmE M108 t1 Ns kb1 vl1 (va_up lf x_72 (some x_7)) rt (va_up pa x_7 (pa pd)) co := tmE.s2 hE71 (v := some x_7) hU109
            refine g_goto hC dJ9_deleteEntry_122 133 rfl ?_
            refine g_aload_n hC dJ9_deleteEntry_133 2 rfl gRef_r 134 rfl ?_
            refine g_aload_n hC dJ9_deleteEntry_134 2 rfl gRef_r 135 rfl ?_
            refine g_aload_n hC dJ9_deleteEntry_135 2 rfl gRef_r 136 rfl ?_
            refine g_null hC dJ9_deleteEntry_136 137 rfl ?_
            refine g_dup_x1 hC dJ9_deleteEntry_137 rfl rfl 138 rfl ?_
            refine g_put hC cI25 (hE110 pd hpd) 4 (Nat.le_of_ble_eq_true rfl) q1032 rfl rfl rfl (Nat.le_of_ble_eq_true rfl) dJ9_deleteEntry_138 (fs' := [.ref (kb1 pd), .ref (vl1 pd), va_rf ((va_up lf x_72 (some x_7)) pd), va_rf (rt pd), .null, .int (bI (co pd))]) rfl 141 rfl (fun M111 hU112 => ?_)
            have hE113 : tmE M111 t1 Ns kb1 vl1 (va_up lf x_72 (some x_7)) rt (va_up (va_up pa x_7 (pa pd)) pd none) co := tmE.s4 hE110 (v := none) hU112
            have hH114 := (hU112.n (gne_c (hU109.n (gne_c (hU70.n (gne_c hL_0 (hLp_0 x_7 hcm) (by decide)) hL_0) (hE71 x_72 hgm) (by decide)) (hU70.n (gne_c hL_0 (hLp_0 x_7 hcm) (by decide)) hL_0)) (hE110 pd hpd) (by decide)) (hU109.n (gne_c (hU70.n (gne_c hL_0 (hLp_0 x_7 hcm) (by decide)) hL_0) (hE71 x_72 hgm) (by decide)) (hU70.n (gne_c hL_0 (hLp_0 x_7 hcm) (by decide)) hL_0)))
            refine g_dup_x1 hC dJ9_deleteEntry_141 rfl rfl 142 rfl ?_
            refine g_put hC cI25 (hE113 pd hpd) 3 (Nat.le_of_ble_eq_true rfl) q1030 rfl rfl rfl (Nat.le_of_ble_eq_true rfl) dJ9_deleteEntry_142 (fs' := [.ref (kb1 pd), .ref (vl1 pd), va_rf ((va_up lf x_72 (some x_7)) pd), .null, va_rf ((va_up (va_up pa x_7 (pa pd)) pd none) pd), .int (bI (co pd))]) rfl 145 rfl (fun M115 hU116 => ?_)
            have hE117 : tmE M115 t1 Ns kb1 vl1 (va_up lf x_72 (some x_7)) (va_up rt pd none) (va_up (va_up pa x_7 (pa pd)) pd none) co := tmE.s3 hE113 (v := none) hU116
            refine g_put hC cI25 (hE117 pd hpd) 2 (Nat.le_of_ble_eq_true rfl) q1028 rfl rfl rfl (Nat.le_of_ble_eq_true rfl) dJ9_deleteEntry_145 (fs' := [.ref (kb1 pd), .ref (vl1 pd), .null, va_rf ((va_up rt pd none) pd), va_rf ((va_up (va_up pa x_7 (pa pd)) pd none) pd), .int (bI (co pd))]) rfl 148 rfl (fun M118 hU119 => ?_)
            have hE120 : tmE M118 t1 Ns kb1 vl1 (va_up (va_up lf x_72 (some x_7)) pd none) (va_up rt pd none) (va_up (va_up pa x_7 (pa pd)) pd none) co := tmE.s2 hE117 (v := none) hU119
            refine g_aload_n hC dJ9_deleteEntry_148 2 rfl gRef_r 149 rfl ?_
            refine g_get (v := .int (bI (co pd))) hC cI25 (hE120 pd hpd) 5 (Nat.le_of_ble_eq_true rfl) q1034 rfl dJ9_deleteEntry_149 152 rfl ?_
            refine g_iconst hC dJ9_deleteEntry_152 ki_1 153 rfl ?_
            refine g_icmp_ne hC dJ9_deleteEntry_153 245 rfl 156 rfl (fun c_121 => ?_) (fun c_121 => ?_)
            · replace c_121 : co pd = false := bB_n1 c_121
              have hE9 : tmE M118 t1 (wo Ns pd) kb1 vl1 (va_up (va_up lf x_72 (some x_7)) pd none) (va_up rt pd none) (va_up (va_up pa x_7 (pa pd)) pd none) co := tmE.sub hE120 (fun a ha => (wo_mem.mp ha).1)
              obtain ⟨loN122, eloN122⟩ : ∃ z, z = (fun a => if lo a = some pd then lo pd else lo a) := ⟨_, rfl⟩
              obtain ⟨hiN122, ehiN122⟩ : ∃ z, z = (fun a => if hi a = some pd then hi pd else hi a) := ⟨_, rfl⟩
              have hI9 : tmI r (wo Ns pd) (kyR ky) (va_up (va_up lf x_72 (some x_7)) pd none) (va_up rt pd none) (va_up (va_up pa x_7 (pa pd)) pd none) loN122 hiN122 := by rw [eloN122, ehiN122]; exact hI.cut1 hpd e_6 e_8 e_73 c_74.symm
              exact g_vret hC (fun k9 hk9 => ⟨pd, kb1, vl1, va_up (va_up lf x_72 (some x_7)) pd none, va_up rt pd none, va_up (va_up pa x_7 (pa pd)) pd none, co, r, loN122, hiN122, (hU119.n (gne_c (hU116.n (gne_c hH114 (hE113 pd hpd) (by decide)) hH114) (hE117 pd hpd) (by decide)) (hU116.n (gne_c hH114 (hE113 pd hpd) (by decide)) hH114)), hE9, (hLF.trans (((((gFr.refl.up hU70 (hLp_0 x_7 hcm) (show (fun t => tgE t0.1 t0.2 t ∨ tgE t1.1 t1.2 t) t1 by (try simp only [ndT, tgE, gT, tgR, ndT9, tg0, Prod.mk.injEq]); first | done | omega | (simp; done))).up hU109 (hE71 x_72 hgm) (show (fun t => tgE t0.1 t0.2 t ∨ tgE t1.1 t1.2 t) t1 by (try simp only [ndT, tgE, gT, tgR, ndT9, tg0, Prod.mk.injEq]); first | done | omega | (simp; done))).up hU112 (hE110 pd hpd) (show (fun t => tgE t0.1 t0.2 t ∨ tgE t1.1 t1.2 t) t1 by (try simp only [ndT, tgE, gT, tgR, ndT9, tg0, Prod.mk.injEq]); first | done | omega | (simp; done))).up hU116 (hE113 pd hpd) (show (fun t => tgE t0.1 t0.2 t ∨ tgE t1.1 t1.2 t) t1 by (try simp only [ndT, tgE, gT, tgR, ndT9, tg0, Prod.mk.injEq]); first | done | omega | (simp; done))).up hU119 (hE117 pd hpd) (show (fun t => tgE t0.1 t0.2 t ∨ tgE t1.1 t1.2 t) t1 by (try simp only [ndT, tgE, gT, tgR, ndT9, tg0, Prod.mk.injEq]); first | done | omega | (simp; done)))), hI9, hK, hpd, (by first | exact Nat.le_zero.mp hk9 | omega)⟩) dJ9_deleteEntry_245 (Nat.le_of_ble_eq_true rfl) (Nat.le_of_ble_eq_true rfl)
            · replace c_121 : co pd = true := bB_e1 c_121
              have hE9 : tmE M118 t1 (wo Ns pd) kb1 vl1 (va_up (va_up lf x_72 (some x_7)) pd none) (va_up rt pd none) (va_up (va_up pa x_7 (pa pd)) pd none) co := tmE.sub hE120 (fun a ha => (wo_mem.mp ha).1)
              obtain ⟨loN123, eloN123⟩ : ∃ z, z = (fun a => if lo a = some pd then lo pd else lo a) := ⟨_, rfl⟩
              obtain ⟨hiN123, ehiN123⟩ : ∃ z, z = (fun a => if hi a = some pd then hi pd else hi a) := ⟨_, rfl⟩
              have hI9 : tmI r (wo Ns pd) (kyR ky) (va_up (va_up lf x_72 (some x_7)) pd none) (va_up rt pd none) (va_up (va_up pa x_7 (pa pd)) pd none) loN123 hiN123 := by rw [eloN123, ehiN123]; exact hI.cut1 hpd e_6 e_8 e_73 c_74.symm
              have hc9m : x_7 ∈ wo Ns pd := wo_mem.mpr ⟨hcm, hcn⟩
              refine g_aload_n hC dJ9_deleteEntry_156 1 rfl gRef_r 157 rfl ?_
              refine g_aload_n hC dJ9_deleteEntry_157 0 rfl gRef_r 158 rfl ?_
              refine g_callv (g_V (As := [.ref x_7]) (rest := []) hC mvJ9_fixAfterDeletion q1094 (gOf.of hC.K cI24 (hU119.n (gne_c (hU116.n (gne_c hH114 (hE113 pd hpd) (by decide)) hH114) (hE117 pd hpd) (by decide)) (hU116.n (gne_c hH114 (hE113 pd hpd) (by decide)) hH114))) (met_TM_fixD l G M118 mp t0 cm r n (mc + 1) ks t1 (wo Ns pd) kb1 vl1 (va_up (va_up lf x_72 (some x_7)) pd none) (va_up rt pd none) (va_up (va_up pa x_7 (pa pd)) pd none) co (kyR ky) loN123 hiN123 x_7 False hI9 hc9m ht (fun q => q.elim) (hU119.n (gne_c (hU116.n (gne_c hH114 (hE113 pd hpd) (by decide)) hH114) (hE117 pd hpd) (by decide)) (hU116.n (gne_c hH114 (hE113 pd hpd) (by decide)) hH114)) hE9) ⟨rfl, rfl⟩ ⟨(Nat.le_of_ble_eq_true rfl), (Nat.le_of_ble_eq_true rfl)⟩ rfl (Nat.le_of_ble_eq_true rfl) dJ9_deleteEntry_158 rfl ⟨(Nat.le_of_ble_eq_true rfl), (Nat.le_of_ble_eq_true rfl)⟩) 0 (Nat.le_of_ble_eq_true rfl) 0 (Nat.le_of_ble_eq_true rfl) 161 rfl (fun M124 k125 hp126 => ?_)
              obtain ⟨lf1_128, rt1_129, pa1_130, co1_131, r1_132, lo1_133, hi1_134, hc135, hpd136, hF137, hq138, hq139, hk140⟩ := hp126
              refine g_goto hC dJ9_deleteEntry_161 245 rfl ?_
              exact g_vret hC (fun k9 hk9 => ⟨pd, kb1, vl1, lf1_128, rt1_129, pa1_130, co1_131, r1_132, lo1_133, hi1_134, hc135, hpd136, (hLF.trans ((((((gFr.refl.up hU70 (hLp_0 x_7 hcm) (show (fun t => tgE t0.1 t0.2 t ∨ tgE t1.1 t1.2 t) t1 by (try simp only [ndT, tgE, gT, tgR, ndT9, tg0, Prod.mk.injEq]); first | done | omega | (simp; done))).up hU109 (hE71 x_72 hgm) (show (fun t => tgE t0.1 t0.2 t ∨ tgE t1.1 t1.2 t) t1 by (try simp only [ndT, tgE, gT, tgR, ndT9, tg0, Prod.mk.injEq]); first | done | omega | (simp; done))).up hU112 (hE110 pd hpd) (show (fun t => tgE t0.1 t0.2 t ∨ tgE t1.1 t1.2 t) t1 by (try simp only [ndT, tgE, gT, tgR, ndT9, tg0, Prod.mk.injEq]); first | done | omega | (simp; done))).up hU116 (hE113 pd hpd) (show (fun t => tgE t0.1 t0.2 t ∨ tgE t1.1 t1.2 t) t1 by (try simp only [ndT, tgE, gT, tgR, ndT9, tg0, Prod.mk.injEq]); first | done | omega | (simp; done))).up hU119 (hE117 pd hpd) (show (fun t => tgE t0.1 t0.2 t ∨ tgE t1.1 t1.2 t) t1 by (try simp only [ndT, tgE, gT, tgR, ndT9, tg0, Prod.mk.injEq]); first | done | omega | (simp; done))).trans (hF137.mono (fun b t h => by obtain ⟨u9, v9⟩ := t; revert h; (try simp only [ndT, tgE, gT, tgR, ndT9, tg0, Prod.mk.injEq]); first | done | omega | (simp; done) | (intro h; simp_all; done))))), hq138, hK, hpd, (by first | exact Nat.le_zero.mp hk9 | omega)⟩) dJ9_deleteEntry_245 (Nat.le_of_ble_eq_true rfl) (Nat.le_of_ble_eq_true rfl)
        · refine g_aload_n hC dJ9_deleteEntry_95 1 rfl gRef_r 96 rfl ?_
          refine g_aload_n hC dJ9_deleteEntry_96 0 rfl gRef_r 97 rfl ?_
          refine g_put hC cI24 (hU70.n (gne_c hL_0 (hLp_0 x_7 hcm) (by decide)) hL_0) 3 (Nat.le_of_ble_eq_true rfl) q343 rfl rfl rfl (Nat.le_of_ble_eq_true rfl) dJ9_deleteEntry_97 (fs' := [.null, .null, .ref cm, .ref x_7, .int (nI n), .int (mc + 1), .null, va_rf ks, .null]) rfl 100 rfl (fun M141 hU142 => ?_)
          refine g_goto hC dJ9_deleteEntry_100 133 rfl ?_
          refine g_aload_n hC dJ9_deleteEntry_133 2 rfl gRef_r 134 rfl ?_
          refine g_aload_n hC dJ9_deleteEntry_134 2 rfl gRef_r 135 rfl ?_
          refine g_aload_n hC dJ9_deleteEntry_135 2 rfl gRef_r 136 rfl ?_
          refine g_null hC dJ9_deleteEntry_136 137 rfl ?_
          refine g_dup_x1 hC dJ9_deleteEntry_137 rfl rfl 138 rfl ?_
          refine g_put hC cI25 ((tmE.fr hE71 (gFr.refl.up hU142 (hU70.n (gne_c hL_0 (hLp_0 x_7 hcm) (by decide)) hL_0) (show (fun t => ¬ (tgE t1.1 t1.2) t) t0 by (try simp only [ndT, tgE, gT, tgR, ndT9, tg0, Prod.mk.injEq]); first | done | omega | (simp; done)))) pd hpd) 4 (Nat.le_of_ble_eq_true rfl) q1032 rfl rfl rfl (Nat.le_of_ble_eq_true rfl) dJ9_deleteEntry_138 (fs' := [.ref (kb1 pd), .ref (vl1 pd), va_rf (lf pd), va_rf (rt pd), .null, .int (bI (co pd))]) rfl 141 rfl (fun M143 hU144 => ?_)
          have hE145 : tmE M143 t1 Ns kb1 vl1 lf rt (va_up (va_up pa x_7 (pa pd)) pd none) co := tmE.s4 (tmE.fr hE71 (gFr.refl.up hU142 (hU70.n (gne_c hL_0 (hLp_0 x_7 hcm) (by decide)) hL_0) (show (fun t => ¬ (tgE t1.1 t1.2) t) t0 by (try simp only [ndT, tgE, gT, tgR, ndT9, tg0, Prod.mk.injEq]); first | done | omega | (simp; done)))) (v := none) hU144
          have hH146 := (hU144.n (gne_c hU142.1 ((tmE.fr hE71 (gFr.refl.up hU142 (hU70.n (gne_c hL_0 (hLp_0 x_7 hcm) (by decide)) hL_0) (show (fun t => ¬ (tgE t1.1 t1.2) t) t0 by (try simp only [ndT, tgE, gT, tgR, ndT9, tg0, Prod.mk.injEq]); first | done | omega | (simp; done)))) pd hpd) (by decide)) hU142.1)
          refine g_dup_x1 hC dJ9_deleteEntry_141 rfl rfl 142 rfl ?_
          refine g_put hC cI25 (hE145 pd hpd) 3 (Nat.le_of_ble_eq_true rfl) q1030 rfl rfl rfl (Nat.le_of_ble_eq_true rfl) dJ9_deleteEntry_142 (fs' := [.ref (kb1 pd), .ref (vl1 pd), va_rf (lf pd), .null, va_rf ((va_up (va_up pa x_7 (pa pd)) pd none) pd), .int (bI (co pd))]) rfl 145 rfl (fun M147 hU148 => ?_)
          have hE149 : tmE M147 t1 Ns kb1 vl1 lf (va_up rt pd none) (va_up (va_up pa x_7 (pa pd)) pd none) co := tmE.s3 hE145 (v := none) hU148
          refine g_put hC cI25 (hE149 pd hpd) 2 (Nat.le_of_ble_eq_true rfl) q1028 rfl rfl rfl (Nat.le_of_ble_eq_true rfl) dJ9_deleteEntry_145 (fs' := [.ref (kb1 pd), .ref (vl1 pd), .null, va_rf ((va_up rt pd none) pd), va_rf ((va_up (va_up pa x_7 (pa pd)) pd none) pd), .int (bI (co pd))]) rfl 148 rfl (fun M150 hU151 => ?_)
          have hE152 : tmE M150 t1 Ns kb1 vl1 (va_up lf pd none) (va_up rt pd none) (va_up (va_up pa x_7 (pa pd)) pd none) co := tmE.s2 hE149 (v := none) hU151
          refine g_aload_n hC dJ9_deleteEntry_148 2 rfl gRef_r 149 rfl ?_
          refine g_get (v := .int (bI (co pd))) hC cI25 (hE152 pd hpd) 5 (Nat.le_of_ble_eq_true rfl) q1034 rfl dJ9_deleteEntry_149 152 rfl ?_
          refine g_iconst hC dJ9_deleteEntry_152 ki_1 153 rfl ?_
          refine g_icmp_ne hC dJ9_deleteEntry_153 245 rfl 156 rfl (fun c_153 => ?_) (fun c_153 => ?_)
          · replace c_153 : co pd = false := bB_n1 c_153
            have hE9 : tmE M150 t1 (wo Ns pd) kb1 vl1 (va_up lf pd none) (va_up rt pd none) (va_up (va_up pa x_7 (pa pd)) pd none) co := tmE.sub hE152 (fun a ha => (wo_mem.mp ha).1)
            obtain ⟨loN154, eloN154⟩ : ∃ z, z = (fun a => if lo a = some pd then lo pd else lo a) := ⟨_, rfl⟩
            obtain ⟨hiN154, ehiN154⟩ : ∃ z, z = (fun a => if hi a = some pd then hi pd else hi a) := ⟨_, rfl⟩
            have hI9 : tmI (some x_7) (wo Ns pd) (kyR ky) (va_up lf pd none) (va_up rt pd none) (va_up (va_up pa x_7 (pa pd)) pd none) loN154 hiN154 := by rw [eloN154, ehiN154]; exact hI.cut0 hpd e_6 e_8 e_73
            exact g_vret hC (fun k9 hk9 => ⟨pd, kb1, vl1, va_up lf pd none, va_up rt pd none, va_up (va_up pa x_7 (pa pd)) pd none, co, (some x_7), loN154, hiN154, (hU151.n (gne_c (hU148.n (gne_c hH146 (hE145 pd hpd) (by decide)) hH146) (hE149 pd hpd) (by decide)) (hU148.n (gne_c hH146 (hE145 pd hpd) (by decide)) hH146)), hE9, (hLF.trans (((((gFr.refl.up hU70 (hLp_0 x_7 hcm) (show (fun t => tgE t0.1 t0.2 t ∨ tgE t1.1 t1.2 t) t1 by (try simp only [ndT, tgE, gT, tgR, ndT9, tg0, Prod.mk.injEq]); first | done | omega | (simp; done))).up hU142 (hU70.n (gne_c hL_0 (hLp_0 x_7 hcm) (by decide)) hL_0) (show (fun t => tgE t0.1 t0.2 t ∨ tgE t1.1 t1.2 t) t0 by (try simp only [ndT, tgE, gT, tgR, ndT9, tg0, Prod.mk.injEq]); first | done | omega | (simp; done))).up hU144 ((tmE.fr hE71 (gFr.refl.up hU142 (hU70.n (gne_c hL_0 (hLp_0 x_7 hcm) (by decide)) hL_0) (show (fun t => ¬ (tgE t1.1 t1.2) t) t0 by (try simp only [ndT, tgE, gT, tgR, ndT9, tg0, Prod.mk.injEq]); first | done | omega | (simp; done)))) pd hpd) (show (fun t => tgE t0.1 t0.2 t ∨ tgE t1.1 t1.2 t) t1 by (try simp only [ndT, tgE, gT, tgR, ndT9, tg0, Prod.mk.injEq]); first | done | omega | (simp; done))).up hU148 (hE145 pd hpd) (show (fun t => tgE t0.1 t0.2 t ∨ tgE t1.1 t1.2 t) t1 by (try simp only [ndT, tgE, gT, tgR, ndT9, tg0, Prod.mk.injEq]); first | done | omega | (simp; done))).up hU151 (hE149 pd hpd) (show (fun t => tgE t0.1 t0.2 t ∨ tgE t1.1 t1.2 t) t1 by (try simp only [ndT, tgE, gT, tgR, ndT9, tg0, Prod.mk.injEq]); first | done | omega | (simp; done)))), hI9, hK, hpd, (by first | exact Nat.le_zero.mp hk9 | omega)⟩) dJ9_deleteEntry_245 (Nat.le_of_ble_eq_true rfl) (Nat.le_of_ble_eq_true rfl)
          · replace c_153 : co pd = true := bB_e1 c_153
            have hE9 : tmE M150 t1 (wo Ns pd) kb1 vl1 (va_up lf pd none) (va_up rt pd none) (va_up (va_up pa x_7 (pa pd)) pd none) co := tmE.sub hE152 (fun a ha => (wo_mem.mp ha).1)
            obtain ⟨loN155, eloN155⟩ : ∃ z, z = (fun a => if lo a = some pd then lo pd else lo a) := ⟨_, rfl⟩
            obtain ⟨hiN155, ehiN155⟩ : ∃ z, z = (fun a => if hi a = some pd then hi pd else hi a) := ⟨_, rfl⟩
            have hI9 : tmI (some x_7) (wo Ns pd) (kyR ky) (va_up lf pd none) (va_up rt pd none) (va_up (va_up pa x_7 (pa pd)) pd none) loN155 hiN155 := by rw [eloN155, ehiN155]; exact hI.cut0 hpd e_6 e_8 e_73
            have hc9m : x_7 ∈ wo Ns pd := wo_mem.mpr ⟨hcm, hcn⟩
            refine g_aload_n hC dJ9_deleteEntry_156 1 rfl gRef_r 157 rfl ?_
            refine g_aload_n hC dJ9_deleteEntry_157 0 rfl gRef_r 158 rfl ?_
            refine g_callv (g_V (As := [.ref x_7]) (rest := []) hC mvJ9_fixAfterDeletion q1094 (gOf.of hC.K cI24 (hU151.n (gne_c (hU148.n (gne_c hH146 (hE145 pd hpd) (by decide)) hH146) (hE149 pd hpd) (by decide)) (hU148.n (gne_c hH146 (hE145 pd hpd) (by decide)) hH146))) (met_TM_fixD l G M150 mp t0 cm (some x_7) n (mc + 1) ks t1 (wo Ns pd) kb1 vl1 (va_up lf pd none) (va_up rt pd none) (va_up (va_up pa x_7 (pa pd)) pd none) co (kyR ky) loN155 hiN155 x_7 False hI9 hc9m ht (fun q => q.elim) (hU151.n (gne_c (hU148.n (gne_c hH146 (hE145 pd hpd) (by decide)) hH146) (hE149 pd hpd) (by decide)) (hU148.n (gne_c hH146 (hE145 pd hpd) (by decide)) hH146)) hE9) ⟨rfl, rfl⟩ ⟨(Nat.le_of_ble_eq_true rfl), (Nat.le_of_ble_eq_true rfl)⟩ rfl (Nat.le_of_ble_eq_true rfl) dJ9_deleteEntry_158 rfl ⟨(Nat.le_of_ble_eq_true rfl), (Nat.le_of_ble_eq_true rfl)⟩) 0 (Nat.le_of_ble_eq_true rfl) 0 (Nat.le_of_ble_eq_true rfl) 161 rfl (fun M156 k157 hp158 => ?_)
            obtain ⟨lf1_160, rt1_161, pa1_162, co1_163, r1_164, lo1_165, hi1_166, hc167, hpd168, hF169, hq170, hq171, hk172⟩ := hp158
            refine g_goto hC dJ9_deleteEntry_161 245 rfl ?_
            exact g_vret hC (fun k9 hk9 => ⟨pd, kb1, vl1, lf1_160, rt1_161, pa1_162, co1_163, r1_164, lo1_165, hi1_166, hc167, hpd168, (hLF.trans ((((((gFr.refl.up hU70 (hLp_0 x_7 hcm) (show (fun t => tgE t0.1 t0.2 t ∨ tgE t1.1 t1.2 t) t1 by (try simp only [ndT, tgE, gT, tgR, ndT9, tg0, Prod.mk.injEq]); first | done | omega | (simp; done))).up hU142 (hU70.n (gne_c hL_0 (hLp_0 x_7 hcm) (by decide)) hL_0) (show (fun t => tgE t0.1 t0.2 t ∨ tgE t1.1 t1.2 t) t0 by (try simp only [ndT, tgE, gT, tgR, ndT9, tg0, Prod.mk.injEq]); first | done | omega | (simp; done))).up hU144 ((tmE.fr hE71 (gFr.refl.up hU142 (hU70.n (gne_c hL_0 (hLp_0 x_7 hcm) (by decide)) hL_0) (show (fun t => ¬ (tgE t1.1 t1.2) t) t0 by (try simp only [ndT, tgE, gT, tgR, ndT9, tg0, Prod.mk.injEq]); first | done | omega | (simp; done)))) pd hpd) (show (fun t => tgE t0.1 t0.2 t ∨ tgE t1.1 t1.2 t) t1 by (try simp only [ndT, tgE, gT, tgR, ndT9, tg0, Prod.mk.injEq]); first | done | omega | (simp; done))).up hU148 (hE145 pd hpd) (show (fun t => tgE t0.1 t0.2 t ∨ tgE t1.1 t1.2 t) t1 by (try simp only [ndT, tgE, gT, tgR, ndT9, tg0, Prod.mk.injEq]); first | done | omega | (simp; done))).up hU151 (hE149 pd hpd) (show (fun t => tgE t0.1 t0.2 t ∨ tgE t1.1 t1.2 t) t1 by (try simp only [ndT, tgE, gT, tgR, ndT9, tg0, Prod.mk.injEq]); first | done | omega | (simp; done))).trans (hF169.mono (fun b t h => by obtain ⟨u9, v9⟩ := t; revert h; (try simp only [ndT, tgE, gT, tgR, ndT9, tg0, Prod.mk.injEq]); first | done | omega | (simp; done) | (intro h; simp_all; done))))), hq170, hK, hpd, (by first | exact Nat.le_zero.mp hk9 | omega)⟩) dJ9_deleteEntry_245 (Nat.le_of_ble_eq_true rfl) (Nat.le_of_ble_eq_true rfl)
    · obtain ⟨hcm, hcp⟩ := hI.lfm hpd e_6
      have hcn : x_5 ≠ pd := Ne.symm (hI.nepa hcm hcp)
      refine g_aload_n hC dJ9_deleteEntry_64 1 rfl gRef_r 65 rfl ?_
      refine g_get (v := va_rf (lf pd)) hC cI25 (hLp_0 pd hpd) 2 (Nat.le_of_ble_eq_true rfl) q1028 rfl dJ9_deleteEntry_65 68 rfl ?_
      refine g_topv (y := .ref x_5) (congrArg va_rf (show lf pd = some x_5 from e_6)) ?_
      refine g_goto hC dJ9_deleteEntry_68 75 rfl ?_
      refine g_astore_n hC dJ9_deleteEntry_75 rfl gRef_r (Nat.le_of_ble_eq_true rfl) [(2, .ref x_5), (0, .ref mp), (1, .ref pd)] rfl 76 rfl ?_
      refine g_aload_n hC dJ9_deleteEntry_76 0 rfl gRef_r 77 rfl ?_
      refine g_ifnull (r := some x_5) hC dJ9_deleteEntry_77 164 rfl 80 rfl (fun q => by cases q) (fun _ _ => ?_)
      refine g_aload_n hC dJ9_deleteEntry_80 0 rfl gRef_r 81 rfl ?_
      refine g_aload_n hC dJ9_deleteEntry_81 2 rfl gRef_r 82 rfl ?_
      refine g_get (v := va_rf (pa pd)) hC cI25 (hLp_0 pd hpd) 4 (Nat.le_of_ble_eq_true rfl) q1032 rfl dJ9_deleteEntry_82 85 rfl ?_
      refine g_put hC cI25 (hLp_0 x_5 hcm) 4 (Nat.le_of_ble_eq_true rfl) q1032 rfl gq_n gq_f (Nat.le_of_ble_eq_true rfl) dJ9_deleteEntry_85 (fs' := [.ref (kb1 x_5), .ref (vl1 x_5), va_rf (lf x_5), va_rf (rt x_5), va_rf (pa pd), .int (bI (co x_5))]) rfl 88 rfl (fun M174 hU175 => ?_)
      have hE176 : tmE M174 t1 Ns kb1 vl1 lf rt (va_up pa x_5 (pa pd)) co := tmE.s4 hLp_0 (v := pa pd) hU175
      refine g_aload_n hC dJ9_deleteEntry_88 2 rfl gRef_r 89 rfl ?_
      refine g_get (v := va_rf ((va_up pa x_5 (pa pd)) pd)) hC cI25 (hE176 pd hpd) 4 (Nat.le_of_ble_eq_true rfl) q1032 rfl dJ9_deleteEntry_89 92 rfl ?_
      refine g_topv (y := va_rf (pa pd)) (congrArg va_rf (show (va_up pa x_5 (pa pd)) pd = pa pd from (by rw [va_up_ne _ _ (Ne.symm hcn)]))) ?_
      refine g_ifnonnull hC dJ9_deleteEntry_92 103 rfl 95 rfl (fun x_177 e_178 => ?_) (fun e_178 => ?_)
      · obtain ⟨hgm, hgc⟩ := hI.2.2.2.2.2.2.2.2.1 pd hpd x_177 e_178
        have hgn : x_177 ≠ pd := hI.nepa hpd e_178
        have hgc9 : x_177 ≠ x_5 := hI.nepa2 hcm hcp e_178
        refine g_aload_n hC dJ9_deleteEntry_103 2 rfl gRef_r 104 rfl ?_
        refine g_aload_n hC dJ9_deleteEntry_104 2 rfl gRef_r 105 rfl ?_
        refine g_get (v := va_rf ((va_up pa x_5 (pa pd)) pd)) hC cI25 (hE176 pd hpd) 4 (Nat.le_of_ble_eq_true rfl) q1032 rfl dJ9_deleteEntry_105 108 rfl ?_
        refine g_topv (y := .ref x_177) (congrArg va_rf (show (va_up pa x_5 (pa pd)) pd = some x_177 from (by rw [va_up_ne _ _ (Ne.symm hcn)]; exact e_178))) ?_
        refine g_get (v := va_rf (lf x_177)) hC cI25 (hE176 x_177 hgm) 2 (Nat.le_of_ble_eq_true rfl) q1028 rfl dJ9_deleteEntry_108 111 rfl ?_
        refine g_acmp_ne (rx := some pd) (ry := lf x_177) hC dJ9_deleteEntry_111 125 rfl 114 rfl (fun c_179 => ?_) (fun c_179 => ?_)
        · refine g_aload_n hC dJ9_deleteEntry_125 2 rfl gRef_r 126 rfl ?_
          refine g_get (v := va_rf ((va_up pa x_5 (pa pd)) pd)) hC cI25 (hE176 pd hpd) 4 (Nat.le_of_ble_eq_true rfl) q1032 rfl dJ9_deleteEntry_126 129 rfl ?_
          refine g_topv (y := .ref x_177) (congrArg va_rf (show (va_up pa x_5 (pa pd)) pd = some x_177 from (by rw [va_up_ne _ _ (Ne.symm hcn)]; exact e_178))) ?_
          refine g_aload_n hC dJ9_deleteEntry_129 0 rfl gRef_r 130 rfl ?_
          refine g_put hC cI25 (hE176 x_177 hgm) 3 (Nat.le_of_ble_eq_true rfl) q1030 rfl rfl rfl (Nat.le_of_ble_eq_true rfl) dJ9_deleteEntry_130 (fs' := [.ref (kb1 x_177), .ref (vl1 x_177), va_rf (lf x_177), .ref x_5, va_rf ((va_up pa x_5 (pa pd)) x_177), .int (bI (co x_177))]) rfl 133 rfl (fun M180 hU181 => ?_)
          have hE182 : tmE M180 t1 Ns kb1 vl1 lf (va_up rt x_177 (some x_5)) (va_up pa x_5 (pa pd)) co := tmE.s3 hE176 (v := some x_5) hU181
          refine g_aload_n hC dJ9_deleteEntry_133 2 rfl gRef_r 134 rfl ?_
          refine g_aload_n hC dJ9_deleteEntry_134 2 rfl gRef_r 135 rfl ?_
          refine g_aload_n hC dJ9_deleteEntry_135 2 rfl gRef_r 136 rfl ?_
          refine g_null hC dJ9_deleteEntry_136 137 rfl ?_
          refine g_dup_x1 hC dJ9_deleteEntry_137 rfl rfl 138 rfl ?_
          refine g_put hC cI25 (hE182 pd hpd) 4 (Nat.le_of_ble_eq_true rfl) q1032 rfl rfl rfl (Nat.le_of_ble_eq_true rfl) dJ9_deleteEntry_138 (fs' := [.ref (kb1 pd), .ref (vl1 pd), va_rf (lf pd), va_rf ((va_up rt x_177 (some x_5)) pd), .null, .int (bI (co pd))]) rfl 141 rfl (fun M183 hU184 => ?_)
          have hE185 : tmE M183 t1 Ns kb1 vl1 lf (va_up rt x_177 (some x_5)) (va_up (va_up pa x_5 (pa pd)) pd none) co := tmE.s4 hE182 (v := none) hU184
          have hH186 := (hU184.n (gne_c (hU181.n (gne_c (hU175.n (gne_c hL_0 (hLp_0 x_5 hcm) (by decide)) hL_0) (hE176 x_177 hgm) (by decide)) (hU175.n (gne_c hL_0 (hLp_0 x_5 hcm) (by decide)) hL_0)) (hE182 pd hpd) (by decide)) (hU181.n (gne_c (hU175.n (gne_c hL_0 (hLp_0 x_5 hcm) (by decide)) hL_0) (hE176 x_177 hgm) (by decide)) (hU175.n (gne_c hL_0 (hLp_0 x_5 hcm) (by decide)) hL_0)))
          refine g_dup_x1 hC dJ9_deleteEntry_141 rfl rfl 142 rfl ?_
          refine g_put hC cI25 (hE185 pd hpd) 3 (Nat.le_of_ble_eq_true rfl) q1030 rfl rfl rfl (Nat.le_of_ble_eq_true rfl) dJ9_deleteEntry_142 (fs' := [.ref (kb1 pd), .ref (vl1 pd), va_rf (lf pd), .null, va_rf ((va_up (va_up pa x_5 (pa pd)) pd none) pd), .int (bI (co pd))]) rfl 145 rfl (fun M187 hU188 => ?_)
          have hE189 : tmE M187 t1 Ns kb1 vl1 lf (va_up (va_up rt x_177 (some x_5)) pd none) (va_up (va_up pa x_5 (pa pd)) pd none) co := tmE.s3 hE185 (v := none) hU188
          refine g_put hC cI25 (hE189 pd hpd) 2 (Nat.le_of_ble_eq_true rfl) q1028 rfl rfl rfl (Nat.le_of_ble_eq_true rfl) dJ9_deleteEntry_145 (fs' := [.ref (kb1 pd), .ref (vl1 pd), .null, va_rf ((va_up (va_up rt x_177 (some x_5)) pd none) pd), va_rf ((va_up (va_up pa x_5 (pa pd)) pd none) pd), .int (bI (co pd))]) rfl 148 rfl (fun M190 hU191 => ?_)
          have hE192 : tmE M190 t1 Ns kb1 vl1 (va_up lf pd none) (va_up (va_up rt x_177 (some x_5)) pd none) (va_up (va_up pa x_5 (pa pd)) pd none) co := tmE.s2 hE189 (v := none) hU191
          refine g_aload_n hC dJ9_deleteEntry_148 2 rfl gRef_r 149 rfl ?_
          refine g_get (v := .int (bI (co pd))) hC cI25 (hE192 pd hpd) 5 (Nat.le_of_ble_eq_true rfl) q1034 rfl dJ9_deleteEntry_149 152 rfl ?_
          refine g_iconst hC dJ9_deleteEntry_152 ki_1 153 rfl ?_
          refine g_icmp_ne hC dJ9_deleteEntry_153 245 rfl 156 rfl (fun c_193 => ?_) (fun c_193 => ?_)
          · replace c_193 : co pd = false := bB_n1 c_193
            have hE9 : tmE M190 t1 (wo Ns pd) kb1 vl1 (va_up lf pd none) (va_up (va_up rt x_177 (some x_5)) pd none) (va_up (va_up pa x_5 (pa pd)) pd none) co := tmE.sub hE192 (fun a ha => (wo_mem.mp ha).1)
            obtain ⟨loN194, eloN194⟩ : ∃ z, z = (fun a => if lo a = some pd then lo pd else lo a) := ⟨_, rfl⟩
            obtain ⟨hiN194, ehiN194⟩ : ∃ z, z = (fun a => if hi a = some pd then hi pd else hi a) := ⟨_, rfl⟩
            have hI9 : tmI r (wo Ns pd) (kyR ky) (va_up lf pd none) (va_up (va_up rt x_177 (some x_5)) pd none) (va_up (va_up pa x_5 (pa pd)) pd none) loN194 hiN194 := by rw [eloN194, ehiN194]; exact hI.cutR2 hpd (hone.resolve_left (by rw [e_6]; simp)) e_6 e_178 (hgc.resolve_left (fun z => c_179 z.symm))
            exact g_vret hC (fun k9 hk9 => ⟨pd, kb1, vl1, va_up lf pd none, va_up (va_up rt x_177 (some x_5)) pd none, va_up (va_up pa x_5 (pa pd)) pd none, co, r, loN194, hiN194, (hU191.n (gne_c (hU188.n (gne_c hH186 (hE185 pd hpd) (by decide)) hH186) (hE189 pd hpd) (by decide)) (hU188.n (gne_c hH186 (hE185 pd hpd) (by decide)) hH186)), hE9, (hLF.trans (((((gFr.refl.up hU175 (hLp_0 x_5 hcm) (show (fun t => tgE t0.1 t0.2 t ∨ tgE t1.1 t1.2 t) t1 by (try simp only [ndT, tgE, gT, tgR, ndT9, tg0, Prod.mk.injEq]); first | done | omega | (simp; done))).up hU181 (hE176 x_177 hgm) (show (fun t => tgE t0.1 t0.2 t ∨ tgE t1.1 t1.2 t) t1 by (try simp only [ndT, tgE, gT, tgR, ndT9, tg0, Prod.mk.injEq]); first | done | omega | (simp; done))).up hU184 (hE182 pd hpd) (show (fun t => tgE t0.1 t0.2 t ∨ tgE t1.1 t1.2 t) t1 by (try simp only [ndT, tgE, gT, tgR, ndT9, tg0, Prod.mk.injEq]); first | done | omega | (simp; done))).up hU188 (hE185 pd hpd) (show (fun t => tgE t0.1 t0.2 t ∨ tgE t1.1 t1.2 t) t1 by (try simp only [ndT, tgE, gT, tgR, ndT9, tg0, Prod.mk.injEq]); first | done | omega | (simp; done))).up hU191 (hE189 pd hpd) (show (fun t => tgE t0.1 t0.2 t ∨ tgE t1.1 t1.2 t) t1 by (try simp only [ndT, tgE, gT, tgR, ndT9, tg0, Prod.mk.injEq]); first | done | omega | (simp; done)))), hI9, hK, hpd, (by first | exact Nat.le_zero.mp hk9 | omega)⟩) dJ9_deleteEntry_245 (Nat.le_of_ble_eq_true rfl) (Nat.le_of_ble_eq_true rfl)
          · replace c_193 : co pd = true := bB_e1 c_193
            have hE9 : tmE M190 t1 (wo Ns pd) kb1 vl1 (va_up lf pd none) (va_up (va_up rt x_177 (some x_5)) pd none) (va_up (va_up pa x_5 (pa pd)) pd none) co := tmE.sub hE192 (fun a ha => (wo_mem.mp ha).1)
            obtain ⟨loN195, eloN195⟩ : ∃ z, z = (fun a => if lo a = some pd then lo pd else lo a) := ⟨_, rfl⟩
            obtain ⟨hiN195, ehiN195⟩ : ∃ z, z = (fun a => if hi a = some pd then hi pd else hi a) := ⟨_, rfl⟩
            have hI9 : tmI r (wo Ns pd) (kyR ky) (va_up lf pd none) (va_up (va_up rt x_177 (some x_5)) pd none) (va_up (va_up pa x_5 (pa pd)) pd none) loN195 hiN195 := by rw [eloN195, ehiN195]; exact hI.cutR2 hpd (hone.resolve_left (by rw [e_6]; simp)) e_6 e_178 (hgc.resolve_left (fun z => c_179 z.symm))
            have hc9m : x_5 ∈ wo Ns pd := wo_mem.mpr ⟨hcm, hcn⟩
            refine g_aload_n hC dJ9_deleteEntry_156 1 rfl gRef_r 157 rfl ?_
            refine g_aload_n hC dJ9_deleteEntry_157 0 rfl gRef_r 158 rfl ?_
            refine g_callv (g_V (As := [.ref x_5]) (rest := []) hC mvJ9_fixAfterDeletion q1094 (gOf.of hC.K cI24 (hU191.n (gne_c (hU188.n (gne_c hH186 (hE185 pd hpd) (by decide)) hH186) (hE189 pd hpd) (by decide)) (hU188.n (gne_c hH186 (hE185 pd hpd) (by decide)) hH186))) (met_TM_fixD l G M190 mp t0 cm r n (mc + 1) ks t1 (wo Ns pd) kb1 vl1 (va_up lf pd none) (va_up (va_up rt x_177 (some x_5)) pd none) (va_up (va_up pa x_5 (pa pd)) pd none) co (kyR ky) loN195 hiN195 x_5 False hI9 hc9m ht (fun q => q.elim) (hU191.n (gne_c (hU188.n (gne_c hH186 (hE185 pd hpd) (by decide)) hH186) (hE189 pd hpd) (by decide)) (hU188.n (gne_c hH186 (hE185 pd hpd) (by decide)) hH186)) hE9) ⟨rfl, rfl⟩ ⟨(Nat.le_of_ble_eq_true rfl), (Nat.le_of_ble_eq_true rfl)⟩ rfl (Nat.le_of_ble_eq_true rfl) dJ9_deleteEntry_158 rfl ⟨(Nat.le_of_ble_eq_true rfl), (Nat.le_of_ble_eq_true rfl)⟩) 0 (Nat.le_of_ble_eq_true rfl) 0 (Nat.le_of_ble_eq_true rfl) 161 rfl (fun M196 k197 hp198 => ?_)
            obtain ⟨lf1_200, rt1_201, pa1_202, co1_203, r1_204, lo1_205, hi1_206, hc207, hpd208, hF209, hq210, hq211, hk212⟩ := hp198
            refine g_goto hC dJ9_deleteEntry_161 245 rfl ?_
            exact g_vret hC (fun k9 hk9 => ⟨pd, kb1, vl1, lf1_200, rt1_201, pa1_202, co1_203, r1_204, lo1_205, hi1_206, hc207, hpd208, (hLF.trans ((((((gFr.refl.up hU175 (hLp_0 x_5 hcm) (show (fun t => tgE t0.1 t0.2 t ∨ tgE t1.1 t1.2 t) t1 by (try simp only [ndT, tgE, gT, tgR, ndT9, tg0, Prod.mk.injEq]); first | done | omega | (simp; done))).up hU181 (hE176 x_177 hgm) (show (fun t => tgE t0.1 t0.2 t ∨ tgE t1.1 t1.2 t) t1 by (try simp only [ndT, tgE, gT, tgR, ndT9, tg0, Prod.mk.injEq]); first | done | omega | (simp; done))).up hU184 (hE182 pd hpd) (show (fun t => tgE t0.1 t0.2 t ∨ tgE t1.1 t1.2 t) t1 by (try simp only [ndT, tgE, gT, tgR, ndT9, tg0, Prod.mk.injEq]); first | done | omega | (simp; done))).up hU188 (hE185 pd hpd) (show (fun t => tgE t0.1 t0.2 t ∨ tgE t1.1 t1.2 t) t1 by (try simp only [ndT, tgE, gT, tgR, ndT9, tg0, Prod.mk.injEq]); first | done | omega | (simp; done))).up hU191 (hE189 pd hpd) (show (fun t => tgE t0.1 t0.2 t ∨ tgE t1.1 t1.2 t) t1 by (try simp only [ndT, tgE, gT, tgR, ndT9, tg0, Prod.mk.injEq]); first | done | omega | (simp; done))).trans (hF209.mono (fun b t h => by obtain ⟨u9, v9⟩ := t; revert h; (try simp only [ndT, tgE, gT, tgR, ndT9, tg0, Prod.mk.injEq]); first | done | omega | (simp; done) | (intro h; simp_all; done))))), hq210, hK, hpd, (by first | exact Nat.le_zero.mp hk9 | omega)⟩) dJ9_deleteEntry_245 (Nat.le_of_ble_eq_true rfl) (Nat.le_of_ble_eq_true rfl)
        · refine g_aload_n hC dJ9_deleteEntry_114 2 rfl gRef_r 115 rfl ?_
          refine g_get (v := va_rf ((va_up pa x_5 (pa pd)) pd)) hC cI25 (hE176 pd hpd) 4 (Nat.le_of_ble_eq_true rfl) q1032 rfl dJ9_deleteEntry_115 118 rfl ?_
          refine g_topv (y := .ref x_177) (congrArg va_rf (show (va_up pa x_5 (pa pd)) pd = some x_177 from (by rw [va_up_ne _ _ (Ne.symm hcn)]; exact e_178))) ?_
          refine g_aload_n hC dJ9_deleteEntry_118 0 rfl gRef_r 119 rfl ?_
          refine g_put hC cI25 (hE176 x_177 hgm) 2 (Nat.le_of_ble_eq_true rfl) q1028 rfl rfl rfl (Nat.le_of_ble_eq_true rfl) dJ9_deleteEntry_119 (fs' := [.ref (kb1 x_177), .ref (vl1 x_177), .ref x_5, va_rf (rt x_177), va_rf ((va_up pa x_5 (pa pd)) x_177), .int (bI (co x_177))]) rfl 122 rfl (fun M213 hU214 => ?_)
          have hE215 : tmE M213 t1 Ns kb1 vl1 (va_up lf x_177 (some x_5)) rt (va_up pa x_5 (pa pd)) co := tmE.s2 hE176 (v := some x_5) hU214
          refine g_goto hC dJ9_deleteEntry_122 133 rfl ?_
          refine g_aload_n hC dJ9_deleteEntry_133 2 rfl gRef_r 134 rfl ?_
          refine g_aload_n hC dJ9_deleteEntry_134 2 rfl gRef_r 135 rfl ?_
          refine g_aload_n hC dJ9_deleteEntry_135 2 rfl gRef_r 136 rfl ?_
          refine g_null hC dJ9_deleteEntry_136 137 rfl ?_
          refine g_dup_x1 hC dJ9_deleteEntry_137 rfl rfl 138 rfl ?_
          refine g_put hC cI25 (hE215 pd hpd) 4 (Nat.le_of_ble_eq_true rfl) q1032 rfl rfl rfl (Nat.le_of_ble_eq_true rfl) dJ9_deleteEntry_138 (fs' := [.ref (kb1 pd), .ref (vl1 pd), va_rf ((va_up lf x_177 (some x_5)) pd), va_rf (rt pd), .null, .int (bI (co pd))]) rfl 141 rfl (fun M216 hU217 => ?_)
          have hE218 : tmE M216 t1 Ns kb1 vl1 (va_up lf x_177 (some x_5)) rt (va_up (va_up pa x_5 (pa pd)) pd none) co := tmE.s4 hE215 (v := none) hU217
          have hH219 := (hU217.n (gne_c (hU214.n (gne_c (hU175.n (gne_c hL_0 (hLp_0 x_5 hcm) (by decide)) hL_0) (hE176 x_177 hgm) (by decide)) (hU175.n (gne_c hL_0 (hLp_0 x_5 hcm) (by decide)) hL_0)) (hE215 pd hpd) (by decide)) (hU214.n (gne_c (hU175.n (gne_c hL_0 (hLp_0 x_5 hcm) (by decide)) hL_0) (hE176 x_177 hgm) (by decide)) (hU175.n (gne_c hL_0 (hLp_0 x_5 hcm) (by decide)) hL_0)))
          refine g_dup_x1 hC dJ9_deleteEntry_141 rfl rfl 142 rfl ?_
          refine g_put hC cI25 (hE218 pd hpd) 3 (Nat.le_of_ble_eq_true rfl) q1030 rfl rfl rfl (Nat.le_of_ble_eq_true rfl) dJ9_deleteEntry_142 (fs' := [.ref (kb1 pd), .ref (vl1 pd), va_rf ((va_up lf x_177 (some x_5)) pd), .null, va_rf ((va_up (va_up pa x_5 (pa pd)) pd none) pd), .int (bI (co pd))]) rfl 145 rfl (fun M220 hU221 => ?_)
          have hE222 : tmE M220 t1 Ns kb1 vl1 (va_up lf x_177 (some x_5)) (va_up rt pd none) (va_up (va_up pa x_5 (pa pd)) pd none) co := tmE.s3 hE218 (v := none) hU221
          refine g_put hC cI25 (hE222 pd hpd) 2 (Nat.le_of_ble_eq_true rfl) q1028 rfl rfl rfl (Nat.le_of_ble_eq_true rfl) dJ9_deleteEntry_145 (fs' := [.ref (kb1 pd), .ref (vl1 pd), .null, va_rf ((va_up rt pd none) pd), va_rf ((va_up (va_up pa x_5 (pa pd)) pd none) pd), .int (bI (co pd))]) rfl 148 rfl (fun M223 hU224 => ?_)
          have hE225 : tmE M223 t1 Ns kb1 vl1 (va_up (va_up lf x_177 (some x_5)) pd none) (va_up rt pd none) (va_up (va_up pa x_5 (pa pd)) pd none) co := tmE.s2 hE222 (v := none) hU224
          refine g_aload_n hC dJ9_deleteEntry_148 2 rfl gRef_r 149 rfl ?_
          refine g_get (v := .int (bI (co pd))) hC cI25 (hE225 pd hpd) 5 (Nat.le_of_ble_eq_true rfl) q1034 rfl dJ9_deleteEntry_149 152 rfl ?_
          refine g_iconst hC dJ9_deleteEntry_152 ki_1 153 rfl ?_
          refine g_icmp_ne hC dJ9_deleteEntry_153 245 rfl 156 rfl (fun c_226 => ?_) (fun c_226 => ?_)
          · replace c_226 : co pd = false := bB_n1 c_226
            have hE9 : tmE M223 t1 (wo Ns pd) kb1 vl1 (va_up (va_up lf x_177 (some x_5)) pd none) (va_up rt pd none) (va_up (va_up pa x_5 (pa pd)) pd none) co := tmE.sub hE225 (fun a ha => (wo_mem.mp ha).1)
            obtain ⟨loN227, eloN227⟩ : ∃ z, z = (fun a => if lo a = some pd then lo pd else lo a) := ⟨_, rfl⟩
            obtain ⟨hiN227, ehiN227⟩ : ∃ z, z = (fun a => if hi a = some pd then hi pd else hi a) := ⟨_, rfl⟩
            have hI9 : tmI r (wo Ns pd) (kyR ky) (va_up (va_up lf x_177 (some x_5)) pd none) (va_up rt pd none) (va_up (va_up pa x_5 (pa pd)) pd none) loN227 hiN227 := by rw [eloN227, ehiN227]; exact hI.cutR1 hpd (hone.resolve_left (by rw [e_6]; simp)) e_6 e_178 c_179.symm
            exact g_vret hC (fun k9 hk9 => ⟨pd, kb1, vl1, va_up (va_up lf x_177 (some x_5)) pd none, va_up rt pd none, va_up (va_up pa x_5 (pa pd)) pd none, co, r, loN227, hiN227, (hU224.n (gne_c (hU221.n (gne_c hH219 (hE218 pd hpd) (by decide)) hH219) (hE222 pd hpd) (by decide)) (hU221.n (gne_c hH219 (hE218 pd hpd) (by decide)) hH219)), hE9, (hLF.trans (((((gFr.refl.up hU175 (hLp_0 x_5 hcm) (show (fun t => tgE t0.1 t0.2 t ∨ tgE t1.1 t1.2 t) t1 by (try simp only [ndT, tgE, gT, tgR, ndT9, tg0, Prod.mk.injEq]); first | done | omega | (simp; done))).up hU214 (hE176 x_177 hgm) (show (fun t => tgE t0.1 t0.2 t ∨ tgE t1.1 t1.2 t) t1 by (try simp only [ndT, tgE, gT, tgR, ndT9, tg0, Prod.mk.injEq]); first | done | omega | (simp; done))).up hU217 (hE215 pd hpd) (show (fun t => tgE t0.1 t0.2 t ∨ tgE t1.1 t1.2 t) t1 by (try simp only [ndT, tgE, gT, tgR, ndT9, tg0, Prod.mk.injEq]); first | done | omega | (simp; done))).up hU221 (hE218 pd hpd) (show (fun t => tgE t0.1 t0.2 t ∨ tgE t1.1 t1.2 t) t1 by (try simp only [ndT, tgE, gT, tgR, ndT9, tg0, Prod.mk.injEq]); first | done | omega | (simp; done))).up hU224 (hE222 pd hpd) (show (fun t => tgE t0.1 t0.2 t ∨ tgE t1.1 t1.2 t) t1 by (try simp only [ndT, tgE, gT, tgR, ndT9, tg0, Prod.mk.injEq]); first | done | omega | (simp; done)))), hI9, hK, hpd, (by first | exact Nat.le_zero.mp hk9 | omega)⟩) dJ9_deleteEntry_245 (Nat.le_of_ble_eq_true rfl) (Nat.le_of_ble_eq_true rfl)
          · replace c_226 : co pd = true := bB_e1 c_226
            have hE9 : tmE M223 t1 (wo Ns pd) kb1 vl1 (va_up (va_up lf x_177 (some x_5)) pd none) (va_up rt pd none) (va_up (va_up pa x_5 (pa pd)) pd none) co := tmE.sub hE225 (fun a ha => (wo_mem.mp ha).1)
            obtain ⟨loN228, eloN228⟩ : ∃ z, z = (fun a => if lo a = some pd then lo pd else lo a) := ⟨_, rfl⟩
            obtain ⟨hiN228, ehiN228⟩ : ∃ z, z = (fun a => if hi a = some pd then hi pd else hi a) := ⟨_, rfl⟩
            have hI9 : tmI r (wo Ns pd) (kyR ky) (va_up (va_up lf x_177 (some x_5)) pd none) (va_up rt pd none) (va_up (va_up pa x_5 (pa pd)) pd none) loN228 hiN228 := by rw [eloN228, ehiN228]; exact hI.cutR1 hpd (hone.resolve_left (by rw [e_6]; simp)) e_6 e_178 c_179.symm
            have hc9m : x_5 ∈ wo Ns pd := wo_mem.mpr ⟨hcm, hcn⟩
            refine g_aload_n hC dJ9_deleteEntry_156 1 rfl gRef_r 157 rfl ?_
            refine g_aload_n hC dJ9_deleteEntry_157 0 rfl gRef_r 158 rfl ?_
            refine g_callv (g_V (As := [.ref x_5]) (rest := []) hC mvJ9_fixAfterDeletion q1094 (gOf.of hC.K cI24 (hU224.n (gne_c (hU221.n (gne_c hH219 (hE218 pd hpd) (by decide)) hH219) (hE222 pd hpd) (by decide)) (hU221.n (gne_c hH219 (hE218 pd hpd) (by decide)) hH219))) (met_TM_fixD l G M223 mp t0 cm r n (mc + 1) ks t1 (wo Ns pd) kb1 vl1 (va_up (va_up lf x_177 (some x_5)) pd none) (va_up rt pd none) (va_up (va_up pa x_5 (pa pd)) pd none) co (kyR ky) loN228 hiN228 x_5 False hI9 hc9m ht (fun q => q.elim) (hU224.n (gne_c (hU221.n (gne_c hH219 (hE218 pd hpd) (by decide)) hH219) (hE222 pd hpd) (by decide)) (hU221.n (gne_c hH219 (hE218 pd hpd) (by decide)) hH219)) hE9) ⟨rfl, rfl⟩ ⟨(Nat.le_of_ble_eq_true rfl), (Nat.le_of_ble_eq_true rfl)⟩ rfl (Nat.le_of_ble_eq_true rfl) dJ9_deleteEntry_158 rfl ⟨(Nat.le_of_ble_eq_true rfl), (Nat.le_of_ble_eq_true rfl)⟩) 0 (Nat.le_of_ble_eq_true rfl) 0 (Nat.le_of_ble_eq_true rfl) 161 rfl (fun M229 k230 hp231 => ?_)
            obtain ⟨lf1_233, rt1_234, pa1_235, co1_236, r1_237, lo1_238, hi1_239, hc240, hpd241, hF242, hq243, hq244, hk245⟩ := hp231
            refine g_goto hC dJ9_deleteEntry_161 245 rfl ?_
            exact g_vret hC (fun k9 hk9 => ⟨pd, kb1, vl1, lf1_233, rt1_234, pa1_235, co1_236, r1_237, lo1_238, hi1_239, hc240, hpd241, (hLF.trans ((((((gFr.refl.up hU175 (hLp_0 x_5 hcm) (show (fun t => tgE t0.1 t0.2 t ∨ tgE t1.1 t1.2 t) t1 by (try simp only [ndT, tgE, gT, tgR, ndT9, tg0, Prod.mk.injEq]); first | done | omega | (simp; done))).up hU214 (hE176 x_177 hgm) (show (fun t => tgE t0.1 t0.2 t ∨ tgE t1.1 t1.2 t) t1 by (try simp only [ndT, tgE, gT, tgR, ndT9, tg0, Prod.mk.injEq]); first | done | omega | (simp; done))).up hU217 (hE215 pd hpd) (show (fun t => tgE t0.1 t0.2 t ∨ tgE t1.1 t1.2 t) t1 by (try simp only [ndT, tgE, gT, tgR, ndT9, tg0, Prod.mk.injEq]); first | done | omega | (simp; done))).up hU221 (hE218 pd hpd) (show (fun t => tgE t0.1 t0.2 t ∨ tgE t1.1 t1.2 t) t1 by (try simp only [ndT, tgE, gT, tgR, ndT9, tg0, Prod.mk.injEq]); first | done | omega | (simp; done))).up hU224 (hE222 pd hpd) (show (fun t => tgE t0.1 t0.2 t ∨ tgE t1.1 t1.2 t) t1 by (try simp only [ndT, tgE, gT, tgR, ndT9, tg0, Prod.mk.injEq]); first | done | omega | (simp; done))).trans (hF242.mono (fun b t h => by obtain ⟨u9, v9⟩ := t; revert h; (try simp only [ndT, tgE, gT, tgR, ndT9, tg0, Prod.mk.injEq]); first | done | omega | (simp; done) | (intro h; simp_all; done))))), hq243, hK, hpd, (by first | exact Nat.le_zero.mp hk9 | omega)⟩) dJ9_deleteEntry_245 (Nat.le_of_ble_eq_true rfl) (Nat.le_of_ble_eq_true rfl)
      · refine g_aload_n hC dJ9_deleteEntry_95 1 rfl gRef_r 96 rfl ?_
        refine g_aload_n hC dJ9_deleteEntry_96 0 rfl gRef_r 97 rfl ?_
        refine g_put hC cI24 (hU175.n (gne_c hL_0 (hLp_0 x_5 hcm) (by decide)) hL_0) 3 (Nat.le_of_ble_eq_true rfl) q343 rfl rfl rfl (Nat.le_of_ble_eq_true rfl) dJ9_deleteEntry_97 (fs' := [.null, .null, .ref cm, .ref x_5, .int (nI n), .int (mc + 1), .null, va_rf ks, .null]) rfl 100 rfl (fun M246 hU247 => ?_)
        refine g_goto hC dJ9_deleteEntry_100 133 rfl ?_
        refine g_aload_n hC dJ9_deleteEntry_133 2 rfl gRef_r 134 rfl ?_
        refine g_aload_n hC dJ9_deleteEntry_134 2 rfl gRef_r 135 rfl ?_
        refine g_aload_n hC dJ9_deleteEntry_135 2 rfl gRef_r 136 rfl ?_
        refine g_null hC dJ9_deleteEntry_136 137 rfl ?_
        refine g_dup_x1 hC dJ9_deleteEntry_137 rfl rfl 138 rfl ?_
        refine g_put hC cI25 ((tmE.fr hE176 (gFr.refl.up hU247 (hU175.n (gne_c hL_0 (hLp_0 x_5 hcm) (by decide)) hL_0) (show (fun t => ¬ (tgE t1.1 t1.2) t) t0 by (try simp only [ndT, tgE, gT, tgR, ndT9, tg0, Prod.mk.injEq]); first | done | omega | (simp; done)))) pd hpd) 4 (Nat.le_of_ble_eq_true rfl) q1032 rfl rfl rfl (Nat.le_of_ble_eq_true rfl) dJ9_deleteEntry_138 (fs' := [.ref (kb1 pd), .ref (vl1 pd), va_rf (lf pd), va_rf (rt pd), .null, .int (bI (co pd))]) rfl 141 rfl (fun M248 hU249 => ?_)
        have hE250 : tmE M248 t1 Ns kb1 vl1 lf rt (va_up (va_up pa x_5 (pa pd)) pd none) co := tmE.s4 (tmE.fr hE176 (gFr.refl.up hU247 (hU175.n (gne_c hL_0 (hLp_0 x_5 hcm) (by decide)) hL_0) (show (fun t => ¬ (tgE t1.1 t1.2) t) t0 by (try simp only [ndT, tgE, gT, tgR, ndT9, tg0, Prod.mk.injEq]); first | done | omega | (simp; done)))) (v := none) hU249
        have hH251 := (hU249.n (gne_c hU247.1 ((tmE.fr hE176 (gFr.refl.up hU247 (hU175.n (gne_c hL_0 (hLp_0 x_5 hcm) (by decide)) hL_0) (show (fun t => ¬ (tgE t1.1 t1.2) t) t0 by (try simp only [ndT, tgE, gT, tgR, ndT9, tg0, Prod.mk.injEq]); first | done | omega | (simp; done)))) pd hpd) (by decide)) hU247.1)
        refine g_dup_x1 hC dJ9_deleteEntry_141 rfl rfl 142 rfl ?_
        refine g_put hC cI25 (hE250 pd hpd) 3 (Nat.le_of_ble_eq_true rfl) q1030 rfl rfl rfl (Nat.le_of_ble_eq_true rfl) dJ9_deleteEntry_142 (fs' := [.ref (kb1 pd), .ref (vl1 pd), va_rf (lf pd), .null, va_rf ((va_up (va_up pa x_5 (pa pd)) pd none) pd), .int (bI (co pd))]) rfl 145 rfl (fun M252 hU253 => ?_)
        have hE254 : tmE M252 t1 Ns kb1 vl1 lf (va_up rt pd none) (va_up (va_up pa x_5 (pa pd)) pd none) co := tmE.s3 hE250 (v := none) hU253
        refine g_put hC cI25 (hE254 pd hpd) 2 (Nat.le_of_ble_eq_true rfl) q1028 rfl rfl rfl (Nat.le_of_ble_eq_true rfl) dJ9_deleteEntry_145 (fs' := [.ref (kb1 pd), .ref (vl1 pd), .null, va_rf ((va_up rt pd none) pd), va_rf ((va_up (va_up pa x_5 (pa pd)) pd none) pd), .int (bI (co pd))]) rfl 148 rfl (fun M255 hU256 => ?_)
        have hE257 : tmE M255 t1 Ns kb1 vl1 (va_up lf pd none) (va_up rt pd none) (va_up (va_up pa x_5 (pa pd)) pd none) co := tmE.s2 hE254 (v := none) hU256
        refine g_aload_n hC dJ9_deleteEntry_148 2 rfl gRef_r 149 rfl ?_
        refine g_get (v := .int (bI (co pd))) hC cI25 (hE257 pd hpd) 5 (Nat.le_of_ble_eq_true rfl) q1034 rfl dJ9_deleteEntry_149 152 rfl ?_
        refine g_iconst hC dJ9_deleteEntry_152 ki_1 153 rfl ?_
        refine g_icmp_ne hC dJ9_deleteEntry_153 245 rfl 156 rfl (fun c_258 => ?_) (fun c_258 => ?_)
        · replace c_258 : co pd = false := bB_n1 c_258
          have hE9 : tmE M255 t1 (wo Ns pd) kb1 vl1 (va_up lf pd none) (va_up rt pd none) (va_up (va_up pa x_5 (pa pd)) pd none) co := tmE.sub hE257 (fun a ha => (wo_mem.mp ha).1)
          obtain ⟨loN259, eloN259⟩ : ∃ z, z = (fun a => if lo a = some pd then lo pd else lo a) := ⟨_, rfl⟩
          obtain ⟨hiN259, ehiN259⟩ : ∃ z, z = (fun a => if hi a = some pd then hi pd else hi a) := ⟨_, rfl⟩
          have hI9 : tmI (some x_5) (wo Ns pd) (kyR ky) (va_up lf pd none) (va_up rt pd none) (va_up (va_up pa x_5 (pa pd)) pd none) loN259 hiN259 := by rw [eloN259, ehiN259]; exact hI.cutR0 hpd (hone.resolve_left (by rw [e_6]; simp)) e_6 e_178
          exact g_vret hC (fun k9 hk9 => ⟨pd, kb1, vl1, va_up lf pd none, va_up rt pd none, va_up (va_up pa x_5 (pa pd)) pd none, co, (some x_5), loN259, hiN259, (hU256.n (gne_c (hU253.n (gne_c hH251 (hE250 pd hpd) (by decide)) hH251) (hE254 pd hpd) (by decide)) (hU253.n (gne_c hH251 (hE250 pd hpd) (by decide)) hH251)), hE9, (hLF.trans (((((gFr.refl.up hU175 (hLp_0 x_5 hcm) (show (fun t => tgE t0.1 t0.2 t ∨ tgE t1.1 t1.2 t) t1 by (try simp only [ndT, tgE, gT, tgR, ndT9, tg0, Prod.mk.injEq]); first | done | omega | (simp; done))).up hU247 (hU175.n (gne_c hL_0 (hLp_0 x_5 hcm) (by decide)) hL_0) (show (fun t => tgE t0.1 t0.2 t ∨ tgE t1.1 t1.2 t) t0 by (try simp only [ndT, tgE, gT, tgR, ndT9, tg0, Prod.mk.injEq]); first | done | omega | (simp; done))).up hU249 ((tmE.fr hE176 (gFr.refl.up hU247 (hU175.n (gne_c hL_0 (hLp_0 x_5 hcm) (by decide)) hL_0) (show (fun t => ¬ (tgE t1.1 t1.2) t) t0 by (try simp only [ndT, tgE, gT, tgR, ndT9, tg0, Prod.mk.injEq]); first | done | omega | (simp; done)))) pd hpd) (show (fun t => tgE t0.1 t0.2 t ∨ tgE t1.1 t1.2 t) t1 by (try simp only [ndT, tgE, gT, tgR, ndT9, tg0, Prod.mk.injEq]); first | done | omega | (simp; done))).up hU253 (hE250 pd hpd) (show (fun t => tgE t0.1 t0.2 t ∨ tgE t1.1 t1.2 t) t1 by (try simp only [ndT, tgE, gT, tgR, ndT9, tg0, Prod.mk.injEq]); first | done | omega | (simp; done))).up hU256 (hE254 pd hpd) (show (fun t => tgE t0.1 t0.2 t ∨ tgE t1.1 t1.2 t) t1 by (try simp only [ndT, tgE, gT, tgR, ndT9, tg0, Prod.mk.injEq]); first | done | omega | (simp; done)))), hI9, hK, hpd, (by first | exact Nat.le_zero.mp hk9 | omega)⟩) dJ9_deleteEntry_245 (Nat.le_of_ble_eq_true rfl) (Nat.le_of_ble_eq_true rfl)
        · replace c_258 : co pd = true := bB_e1 c_258
          have hE9 : tmE M255 t1 (wo Ns pd) kb1 vl1 (va_up lf pd none) (va_up rt pd none) (va_up (va_up pa x_5 (pa pd)) pd none) co := tmE.sub hE257 (fun a ha => (wo_mem.mp ha).1)
          obtain ⟨loN260, eloN260⟩ : ∃ z, z = (fun a => if lo a = some pd then lo pd else lo a) := ⟨_, rfl⟩
          obtain ⟨hiN260, ehiN260⟩ : ∃ z, z = (fun a => if hi a = some pd then hi pd else hi a) := ⟨_, rfl⟩
          have hI9 : tmI (some x_5) (wo Ns pd) (kyR ky) (va_up lf pd none) (va_up rt pd none) (va_up (va_up pa x_5 (pa pd)) pd none) loN260 hiN260 := by rw [eloN260, ehiN260]; exact hI.cutR0 hpd (hone.resolve_left (by rw [e_6]; simp)) e_6 e_178
          have hc9m : x_5 ∈ wo Ns pd := wo_mem.mpr ⟨hcm, hcn⟩
          refine g_aload_n hC dJ9_deleteEntry_156 1 rfl gRef_r 157 rfl ?_
          refine g_aload_n hC dJ9_deleteEntry_157 0 rfl gRef_r 158 rfl ?_
          refine g_callv (g_V (As := [.ref x_5]) (rest := []) hC mvJ9_fixAfterDeletion q1094 (gOf.of hC.K cI24 (hU256.n (gne_c (hU253.n (gne_c hH251 (hE250 pd hpd) (by decide)) hH251) (hE254 pd hpd) (by decide)) (hU253.n (gne_c hH251 (hE250 pd hpd) (by decide)) hH251))) (met_TM_fixD l G M255 mp t0 cm (some x_5) n (mc + 1) ks t1 (wo Ns pd) kb1 vl1 (va_up lf pd none) (va_up rt pd none) (va_up (va_up pa x_5 (pa pd)) pd none) co (kyR ky) loN260 hiN260 x_5 False hI9 hc9m ht (fun q => q.elim) (hU256.n (gne_c (hU253.n (gne_c hH251 (hE250 pd hpd) (by decide)) hH251) (hE254 pd hpd) (by decide)) (hU253.n (gne_c hH251 (hE250 pd hpd) (by decide)) hH251)) hE9) ⟨rfl, rfl⟩ ⟨(Nat.le_of_ble_eq_true rfl), (Nat.le_of_ble_eq_true rfl)⟩ rfl (Nat.le_of_ble_eq_true rfl) dJ9_deleteEntry_158 rfl ⟨(Nat.le_of_ble_eq_true rfl), (Nat.le_of_ble_eq_true rfl)⟩) 0 (Nat.le_of_ble_eq_true rfl) 0 (Nat.le_of_ble_eq_true rfl) 161 rfl (fun M261 k262 hp263 => ?_)
          obtain ⟨lf1_265, rt1_266, pa1_267, co1_268, r1_269, lo1_270, hi1_271, hc272, hpd273, hF274, hq275, hq276, hk277⟩ := hp263
          refine g_goto hC dJ9_deleteEntry_161 245 rfl ?_
          exact g_vret hC (fun k9 hk9 => ⟨pd, kb1, vl1, lf1_265, rt1_266, pa1_267, co1_268, r1_269, lo1_270, hi1_271, hc272, hpd273, (hLF.trans ((((((gFr.refl.up hU175 (hLp_0 x_5 hcm) (show (fun t => tgE t0.1 t0.2 t ∨ tgE t1.1 t1.2 t) t1 by (try simp only [ndT, tgE, gT, tgR, ndT9, tg0, Prod.mk.injEq]); first | done | omega | (simp; done))).up hU247 (hU175.n (gne_c hL_0 (hLp_0 x_5 hcm) (by decide)) hL_0) (show (fun t => tgE t0.1 t0.2 t ∨ tgE t1.1 t1.2 t) t0 by (try simp only [ndT, tgE, gT, tgR, ndT9, tg0, Prod.mk.injEq]); first | done | omega | (simp; done))).up hU249 ((tmE.fr hE176 (gFr.refl.up hU247 (hU175.n (gne_c hL_0 (hLp_0 x_5 hcm) (by decide)) hL_0) (show (fun t => ¬ (tgE t1.1 t1.2) t) t0 by (try simp only [ndT, tgE, gT, tgR, ndT9, tg0, Prod.mk.injEq]); first | done | omega | (simp; done)))) pd hpd) (show (fun t => tgE t0.1 t0.2 t ∨ tgE t1.1 t1.2 t) t1 by (try simp only [ndT, tgE, gT, tgR, ndT9, tg0, Prod.mk.injEq]); first | done | omega | (simp; done))).up hU253 (hE250 pd hpd) (show (fun t => tgE t0.1 t0.2 t ∨ tgE t1.1 t1.2 t) t1 by (try simp only [ndT, tgE, gT, tgR, ndT9, tg0, Prod.mk.injEq]); first | done | omega | (simp; done))).up hU256 (hE254 pd hpd) (show (fun t => tgE t0.1 t0.2 t ∨ tgE t1.1 t1.2 t) t1 by (try simp only [ndT, tgE, gT, tgR, ndT9, tg0, Prod.mk.injEq]); first | done | omega | (simp; done))).trans (hF274.mono (fun b t h => by obtain ⟨u9, v9⟩ := t; revert h; (try simp only [ndT, tgE, gT, tgR, ndT9, tg0, Prod.mk.injEq]); first | done | omega | (simp; done) | (intro h; simp_all; done))))), hq275, hK, hpd, (by first | exact Nat.le_zero.mp hk9 | omega)⟩) dJ9_deleteEntry_245 (Nat.le_of_ble_eq_true rfl) (Nat.le_of_ble_eq_true rfl)
  refine g_aload_n hC dJ9_deleteEntry_20 1 rfl gRef_r 21 rfl ?_
  refine g_get (v := va_rf (lf p0)) hC cI25 ((tmE.fr hP_0 ((gFr.refl.up hU2 hM_0 (show (fun t => ¬ (tgE t1.1 t1.2) t) t0 by (try simp only [ndT, tgE, gT, tgR, ndT9, tg0, Prod.mk.injEq]); first | done | omega | (simp; done))).up hU4 hU2.1 (show (fun t => ¬ (tgE t1.1 t1.2) t) t0 by (try simp only [ndT, tgE, gT, tgR, ndT9, tg0, Prod.mk.injEq]); first | done | omega | (simp; done)))) p0 hp0) 2 (Nat.le_of_ble_eq_true rfl) q1028 rfl dJ9_deleteEntry_21 24 rfl ?_
  refine g_ifnull hC dJ9_deleteEntry_24 57 rfl 27 rfl (fun e_279 => ?_) (fun x_278 e_279 => ?_)
  · exact join57 p0 kb vl M3 hp0 (Or.inl e_279) (Or.inl ⟨rfl, rfl, rfl⟩) hU4.1 (tmE.fr hP_0 ((gFr.refl.up hU2 hM_0 (show (fun t => ¬ (tgE t1.1 t1.2) t) t0 by (try simp only [ndT, tgE, gT, tgR, ndT9, tg0, Prod.mk.injEq]); first | done | omega | (simp; done))).up hU4 hU2.1 (show (fun t => ¬ (tgE t1.1 t1.2) t) t0 by (try simp only [ndT, tgE, gT, tgR, ndT9, tg0, Prod.mk.injEq]); first | done | omega | (simp; done)))) ((gFr.refl.up hU2 hM_0 (show (fun t => tgE t0.1 t0.2 t ∨ tgE t1.1 t1.2 t) t0 by (try simp only [ndT, tgE, gT, tgR, ndT9, tg0, Prod.mk.injEq]); first | done | omega | (simp; done))).up hU4 hU2.1 (show (fun t => tgE t0.1 t0.2 t ∨ tgE t1.1 t1.2 t) t0 by (try simp only [ndT, tgE, gT, tgR, ndT9, tg0, Prod.mk.injEq]); first | done | omega | (simp; done)))
  · obtain ⟨hxlf, -, hllf, -⟩ := hI.2.2.2.2.1 p0 hp0 x_278 e_279
    refine g_aload_n hC dJ9_deleteEntry_27 1 rfl gRef_r 28 rfl ?_
    refine g_get (v := va_rf (rt p0)) hC cI25 ((tmE.fr hP_0 ((gFr.refl.up hU2 hM_0 (show (fun t => ¬ (tgE t1.1 t1.2) t) t0 by (try simp only [ndT, tgE, gT, tgR, ndT9, tg0, Prod.mk.injEq]); first | done | omega | (simp; done))).up hU4 hU2.1 (show (fun t => ¬ (tgE t1.1 t1.2) t) t0 by (try simp only [ndT, tgE, gT, tgR, ndT9, tg0, Prod.mk.injEq]); first | done | omega | (simp; done)))) p0 hp0) 3 (Nat.le_of_ble_eq_true rfl) q1030 rfl dJ9_deleteEntry_28 31 rfl ?_
    refine g_ifnull hC dJ9_deleteEntry_31 57 rfl 34 rfl (fun e_281 => ?_) (fun x_280 e_281 => ?_)
    · exact join57 p0 kb vl M3 hp0 (Or.inr e_281) (Or.inl ⟨rfl, rfl, rfl⟩) hU4.1 (tmE.fr hP_0 ((gFr.refl.up hU2 hM_0 (show (fun t => ¬ (tgE t1.1 t1.2) t) t0 by (try simp only [ndT, tgE, gT, tgR, ndT9, tg0, Prod.mk.injEq]); first | done | omega | (simp; done))).up hU4 hU2.1 (show (fun t => ¬ (tgE t1.1 t1.2) t) t0 by (try simp only [ndT, tgE, gT, tgR, ndT9, tg0, Prod.mk.injEq]); first | done | omega | (simp; done)))) ((gFr.refl.up hU2 hM_0 (show (fun t => tgE t0.1 t0.2 t ∨ tgE t1.1 t1.2 t) t0 by (try simp only [ndT, tgE, gT, tgR, ndT9, tg0, Prod.mk.injEq]); first | done | omega | (simp; done))).up hU4 hU2.1 (show (fun t => tgE t0.1 t0.2 t ∨ tgE t1.1 t1.2 t) t0 by (try simp only [ndT, tgE, gT, tgR, ndT9, tg0, Prod.mk.injEq]); first | done | omega | (simp; done)))
    · obtain ⟨hxrt, -, hlrt, -⟩ := hI.2.2.2.2.2.1 p0 hp0 x_280 e_281
      refine g_aload_n hC dJ9_deleteEntry_34 1 rfl gRef_r 35 rfl ?_
      refine g_callqP (g_S (As := [.ref p0]) (rest := []) hC msJ9_successor q1091 (met_TM_succ l G M3 t1 Ns kb vl lf rt pa co r ky lo hi p0 hI hS hp0 (tmE.fr hP_0 ((gFr.refl.up hU2 hM_0 (show (fun t => ¬ (tgE t1.1 t1.2) t) t0 by (try simp only [ndT, tgE, gT, tgR, ndT9, tg0, Prod.mk.injEq]); first | done | omega | (simp; done))).up hU4 hU2.1 (show (fun t => ¬ (tgE t1.1 t1.2) t) t0 by (try simp only [ndT, tgE, gT, tgR, ndT9, tg0, Prod.mk.injEq]); first | done | omega | (simp; done))))) ⟨rfl, rfl⟩ ⟨(Nat.le_of_ble_eq_true rfl), (Nat.le_of_ble_eq_true rfl)⟩ rfl (Nat.le_of_ble_eq_true rfl) dJ9_deleteEntry_35 rfl ⟨(Nat.le_of_ble_eq_true rfl), (Nat.le_of_ble_eq_true rfl)⟩) 38 rfl 0 (Nat.le_of_ble_eq_true rfl) ?_
      obtain ⟨s9, hsm, hsl, hslo⟩ := hI.lmost hxrt hlrt
      have hsH : tmH Ns ky (ky p0) = some s9 := hI.lm hS hp0 hsm hslo hsl
      have hsp : s9 ≠ p0 := fun e => by have h1 := ((hI.2.2.2.1 s9 hsm).1 p0 hslo).2; rw [e] at h1; omega
      refine g_topv (y := .ref s9) (by rw [hsH]; rfl) ?_
      refine g_astore_n hC dJ9_deleteEntry_38 rfl gRef_r (Nat.le_of_ble_eq_true rfl) [(2, .ref s9), (0, .ref mp), (1, .ref p0)] rfl 39 rfl ?_
      refine g_aload_n hC dJ9_deleteEntry_39 2 rfl gRef_r 40 rfl ?_
      refine g_aload_n hC dJ9_deleteEntry_40 0 rfl gRef_r 41 rfl ?_
      refine g_get (v := .ref (kb s9)) hC cI25 ((tmE.fr hP_0 ((gFr.refl.up hU2 hM_0 (show (fun t => ¬ (tgE t1.1 t1.2) t) t0 by (try simp only [ndT, tgE, gT, tgR, ndT9, tg0, Prod.mk.injEq]); first | done | omega | (simp; done))).up hU4 hU2.1 (show (fun t => ¬ (tgE t1.1 t1.2) t) t0 by (try simp only [ndT, tgE, gT, tgR, ndT9, tg0, Prod.mk.injEq]); first | done | omega | (simp; done)))) s9 hsm) 0 (Nat.le_of_ble_eq_true rfl) q1024 rfl dJ9_deleteEntry_41 44 rfl ?_
      refine g_put hC cI25 ((tmE.fr hP_0 ((gFr.refl.up hU2 hM_0 (show (fun t => ¬ (tgE t1.1 t1.2) t) t0 by (try simp only [ndT, tgE, gT, tgR, ndT9, tg0, Prod.mk.injEq]); first | done | omega | (simp; done))).up hU4 hU2.1 (show (fun t => ¬ (tgE t1.1 t1.2) t) t0 by (try simp only [ndT, tgE, gT, tgR, ndT9, tg0, Prod.mk.injEq]); first | done | omega | (simp; done)))) p0 hp0) 0 (Nat.le_of_ble_eq_true rfl) q1024 rfl rfl rfl (Nat.le_of_ble_eq_true rfl) dJ9_deleteEntry_44 (fs' := [.ref (kb s9), .ref (vl p0), va_rf (lf p0), va_rf (rt p0), va_rf (pa p0), .int (bI (co p0))]) rfl 47 rfl (fun M282 hU283 => ?_)
      have hE284 : tmE M282 t1 Ns (va_up kb p0 (kb s9)) vl lf rt pa co := tmE.s0 (tmE.fr hP_0 ((gFr.refl.up hU2 hM_0 (show (fun t => ¬ (tgE t1.1 t1.2) t) t0 by (try simp only [ndT, tgE, gT, tgR, ndT9, tg0, Prod.mk.injEq]); first | done | omega | (simp; done))).up hU4 hU2.1 (show (fun t => ¬ (tgE t1.1 t1.2) t) t0 by (try simp only [ndT, tgE, gT, tgR, ndT9, tg0, Prod.mk.injEq]); first | done | omega | (simp; done)))) (v := kb s9) hU283
      have hH285 := (hU283.n (gne_c hU4.1 ((tmE.fr hP_0 ((gFr.refl.up hU2 hM_0 (show (fun t => ¬ (tgE t1.1 t1.2) t) t0 by (try simp only [ndT, tgE, gT, tgR, ndT9, tg0, Prod.mk.injEq]); first | done | omega | (simp; done))).up hU4 hU2.1 (show (fun t => ¬ (tgE t1.1 t1.2) t) t0 by (try simp only [ndT, tgE, gT, tgR, ndT9, tg0, Prod.mk.injEq]); first | done | omega | (simp; done)))) p0 hp0) (by decide)) hU4.1)
      refine g_aload_n hC dJ9_deleteEntry_47 2 rfl gRef_r 48 rfl ?_
      refine g_aload_n hC dJ9_deleteEntry_48 0 rfl gRef_r 49 rfl ?_
      refine g_get (v := .ref (vl s9)) hC cI25 (hE284 s9 hsm) 1 (Nat.le_of_ble_eq_true rfl) q1026 rfl dJ9_deleteEntry_49 52 rfl ?_
      refine g_put hC cI25 (hE284 p0 hp0) 1 (Nat.le_of_ble_eq_true rfl) q1026 rfl rfl rfl (Nat.le_of_ble_eq_true rfl) dJ9_deleteEntry_52 (fs' := [.ref ((va_up kb p0 (kb s9)) p0), .ref (vl s9), va_rf (lf p0), va_rf (rt p0), va_rf (pa p0), .int (bI (co p0))]) rfl 55 rfl (fun M286 hU287 => ?_)
      have hE288 : tmE M286 t1 Ns (va_up kb p0 (kb s9)) (va_up vl p0 (vl s9)) lf rt pa co := tmE.s1 hE284 (v := vl s9) hU287
      refine g_aload_n hC dJ9_deleteEntry_55 0 rfl gRef_r 56 rfl ?_
      refine g_astore_n hC dJ9_deleteEntry_56 rfl gRef_r (Nat.le_of_ble_eq_true rfl) [(1, .ref s9), (2, .ref s9), (0, .ref mp)] rfl 57 rfl ?_
      refine gJ.sub (M' := M286) [2, 0] rfl ?_
      exact join57 s9 (va_up kb p0 (kb s9)) (va_up vl p0 (vl s9)) M286 hsm (Or.inl hsl) (Or.inr ⟨hsp, hsH, rfl, rfl⟩) (hU287.n (gne_c hH285 (hE284 p0 hp0) (by decide)) hH285) hE288 ((((gFr.refl.up hU2 hM_0 (show (fun t => tgE t0.1 t0.2 t ∨ tgE t1.1 t1.2 t) t0 by (try simp only [ndT, tgE, gT, tgR, ndT9, tg0, Prod.mk.injEq]); first | done | omega | (simp; done))).up hU4 hU2.1 (show (fun t => tgE t0.1 t0.2 t ∨ tgE t1.1 t1.2 t) t0 by (try simp only [ndT, tgE, gT, tgR, ndT9, tg0, Prod.mk.injEq]); first | done | omega | (simp; done))).up hU283 ((tmE.fr hP_0 ((gFr.refl.up hU2 hM_0 (show (fun t => ¬ (tgE t1.1 t1.2) t) t0 by (try simp only [ndT, tgE, gT, tgR, ndT9, tg0, Prod.mk.injEq]); first | done | omega | (simp; done))).up hU4 hU2.1 (show (fun t => ¬ (tgE t1.1 t1.2) t) t0 by (try simp only [ndT, tgE, gT, tgR, ndT9, tg0, Prod.mk.injEq]); first | done | omega | (simp; done)))) p0 hp0) (show (fun t => tgE t0.1 t0.2 t ∨ tgE t1.1 t1.2 t) t1 by (try simp only [ndT, tgE, gT, tgR, ndT9, tg0, Prod.mk.injEq]); first | done | omega | (simp; done))).up hU287 (hE284 p0 hp0) (show (fun t => tgE t0.1 t0.2 t ∨ tgE t1.1 t1.2 t) t1 by (try simp only [ndT, tgE, gT, tgR, ndT9, tg0, Prod.mk.injEq]); first | done | omega | (simp; done)))
