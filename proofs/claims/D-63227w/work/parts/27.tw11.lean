/-! THE TWIN, 11: load, the rest -/
theorem putB_out {T : Nat → Int32} {a : Nat} {v : Int32} : ∀ {n b : Nat}, b < a ∨ a + n ≤ b → putB T a v n b = T b
  | 0, b, _ => rfl
  | n + 1, b, h => by
    rw [putB, pk_un (by omega)]
    exact putB_out (by omega)
theorem wdA_put {T : Nat → Int32} {a b : Nat} {v : Int32} (h : b + 4 ≤ a ∨ a + 4 ≤ b) : wdA (putB T a v 4) b = wdA T b := by
  unfold wdA
  rw [putB_out (by omega), putB_out (by omega), putB_out (by omega), putB_out (by omega)]
/-- the tape with so many places mended -/
def mnT (g : Nat → Nat → Int32) (n : Nat) (T : Nat → Int32) (L M E : Nat) (ad : Int32) : Nat → (Nat → Int32)
  | 0 => T
  | k + 1 => mndT g n (mnT g n T L M E ad k) L (plA L M E k) ad
def mnF (g : Nat → Nat → Int32) (n : Nat) (T : Nat → Int32) (L M E P : Nat) (ad : Int32) : Option Nat := tfind (fun k => !(mndB g n (mnT g n T L M E ad k) L (plA L M E k) ad)) P
/-- places as they must be -/
def plQ (T : Nat → Int32) (L M E k : Nat) : Prop := (0 ≤ wdA T (plA L M E k) ∧ wdA T (plA L M E k) ≤ 5) ∧ isWd (wdA T (plA L M E k + 4)) (nI L) = true ∧ -1 ≤ wdA T (plA L M E k + 8) ∧ wdA T (plA L M E k + 8) < nI M
theorem mnT_hi {g : Nat → Nat → Int32} {n : Nat} {T : Nat → Int32} {L M E P : Nat} {ad : Int32} (hL : L ≤ 512) (hL4 : L % 4 = 0) (hp : ∀ k, k < P → plQ T L M E k) : ∀ k, k ≤ P → ∀ b, 32 + L ≤ b → wdA (mnT g n T L M E ad k) b = wdA T b
  | 0, _, b, _ => rfl
  | k + 1, hk, b, hb => by
    have ih := mnT_hi (g := g) (n := n) (ad := ad) hL hL4 hp k (by omega)
    obtain ⟨o, ho, ho2, ho3⟩ := isWd_of (E := L) (by omega) (hp k (by omega)).2.1
    rw [mnT, mndT, ih _ (by unfold plA; omega), ho2, nI_clamp (by omega), wdA_put (by omega)]
    exact ih b hb
def cpM (M T : Nat → Int32) (ad : Nat) : Nat → (Nat → Int32)
  | 0 => M
  | j + 1 => upd (cpM M T ad j) (ad + j) (T (32 + j))
def en1 (g : Nat → Nat → Int32) (T : Nat → Int32) (m ad L : Nat) (nm gu le : Int32) : Nat → Nat → Int32 := va_up (va_up g 16 T) 1 (cpM (g 1) T ad L)
def en2 (g : Nat → Nat → Int32) (T : Nat → Int32) (m ad L : Nat) (nm gu le : Int32) : Nat → Nat → Int32 := va_up (en1 g T m ad L nm gu le) 8 (upd (g 8) m 1)
def en3 (g : Nat → Nat → Int32) (T : Nat → Int32) (m ad L : Nat) (nm gu le : Int32) : Nat → Nat → Int32 := va_up (en2 g T m ad L nm gu le) 9 (upd (g 9) m nm)
def en4 (g : Nat → Nat → Int32) (T : Nat → Int32) (m ad L : Nat) (nm gu le : Int32) : Nat → Nat → Int32 := va_up (en3 g T m ad L nm gu le) 10 (upd (g 10) m (nI ad))
def en5 (g : Nat → Nat → Int32) (T : Nat → Int32) (m ad L : Nat) (nm gu le : Int32) : Nat → Nat → Int32 := va_up (en4 g T m ad L nm gu le) 11 (upd (g 11) m (nI L))
def en6 (g : Nat → Nat → Int32) (T : Nat → Int32) (m ad L : Nat) (nm gu le : Int32) : Nat → Nat → Int32 := va_up (en5 g T m ad L nm gu le) 12 (upd (g 12) m gu)
def entG (g : Nat → Nat → Int32) (T : Nat → Int32) (m ad L : Nat) (nm gu le : Int32) : Nat → Nat → Int32 := va_up (en6 g T m ad L nm gu le) 13 (upd (g 13) m le)
/-- whose it needs -/
def ndN (g : Nat → Nat → Int32) (n : Nat) (T : Nat → Int32) (L m : Nat) : Nat → (Nat → Int32)
  | 0 => g 14
  | k + 1 => if g 7 ((tsym g n (wdA T (imA L k))).getD 0) < 0 then ndN g n T L m k else upd (ndN g n T L m k) (12 * m + (g 7 ((tsym g n (wdA T (imA L k))).getD 0)).toNatClampNeg) 1
def exG (g : Nat → Nat → Int32) (n : Nat) (T : Nat → Int32) (L M ad m : Nat) : Nat → (Nat → Nat → Int32)
  | 0 => g
  | k + 1 => addG (exG g n T L M ad m k) (n + k) (wdA T (exA L M k)) (wdA T (exA L M k + 4)) (nI ad + wdA T (exA L M k + 8)) (nI m)
theorem exG_16 {g : Nat → Nat → Int32} {n : Nat} {T : Nat → Int32} {L M ad m : Nat} : ∀ k j, j ≠ 4 → j ≠ 5 → j ≠ 6 → j ≠ 7 → exG g n T L M ad m k j = g j
  | 0, _, _, _, _, _ => rfl
  | k + 1, j, h4, h5, h6, h7 => by
    rw [exG, addG, va_up_ne _ _ h7, va_up_ne _ _ h6, va_up_ne _ _ h5, va_up_ne _ _ h4]
    exact exG_16 k j h4 h5 h6 h7
theorem mndB_up (g : Nat → Nat → Int32) (X : Nat → Int32) (n : Nat) (T : Nat → Int32) (L p : Nat) (ad : Int32) : mndB (va_up g 16 X) n T L p ad = mndB g n T L p ad := rfl
theorem mndT_up (g : Nat → Nat → Int32) (X : Nat → Int32) (n : Nat) (T : Nat → Int32) (L p : Nat) (ad : Int32) : mndT (va_up g 16 X) n T L p ad = mndT g n T L p ad := rfl
/-- the twin with a module entered -/
def br3 (g : Nat → Nat → Int32) (n : Nat) (L M E m ad : Nat) (nm gu le : Int32) (T : Nat → Int32) : Nat → Nat → Int32 := exG (va_up (entG g T m ad L nm gu le) 14 (ndN g n T L m M)) n T L M ad m E
def brK (r : mR) : Int32 := if r.1 = 0 then (if r.2.2.2.2.1 10 = 0 then 0 else 10) else r.1
def brE (f : Nat → Int32) (g : Nat → Nat → Int32) (r : mR) (n m : Nat) : (Nat → Int32) × (Nat → Nat → Int32) := if brK r = 0 then (runF f r, gMR g r.2.2.2.1 r.2.2.2.2.1) else (va_up (va_up (va_up (runF f r) 17 (brK r)) 18 (-1)) 3 (nI (remN (gMR g r.2.2.2.1 r.2.2.2.2.1) n m)), remG (gMR g r.2.2.2.1 r.2.2.2.2.1) n m)
def brI (f : Nat → Int32) (g : Nat → Nat → Int32) (n m ad fu : Nat) : (Nat → Int32) × (Nat → Nat → Int32) := if f 27 = -1 then (f, g) else brE f g (runR f g (nI ad + f 27) 0 0 fu) n m
def brR (f : Nat → Int32) (g : Nat → Nat → Int32) (n L M E P m ad : Nat) (nm : Int32) (fu : Nat) : (Nat → Int32) × (Nat → Nat → Int32) := match mnF g n (g 16) L M E P (nI ad) with
  | some k => (va_up (va_up f 17 7) 18 (nI k), va_up g 16 (mnT g n (g 16) L M E (nI ad) k))
  | none => brI (va_up f 3 (nI (n + E))) (br3 g n L M E m ad nm (f 29) (f 28) (mnT g n (g 16) L M E (nI ad) P)) (n + E) m ad fu
set_option maxRecDepth 100000 in
set_option maxHeartbeats 4000000 in
theorem c_TM_bring (l : Launch) (G : eg_G) (h : Nat) (q : Nat → Nat) (f : Nat → Int32) (g : Nat → Nat → Int32) (n : Nat) (hn : f 3 = nI n) (hn2 : n ≤ 40) (L M E P : Nat) (hz : FZ f L M E P) (hL4 : L % 4 = 0) (hpl : ∀ k, k < P → plQ (g 16) L M E k) (hfd : ∀ i, i < M → (tsym g n (wdA (g 16) (imA L i))).isSome = true) (hnE : n + E ≤ 40) (hof : ∀ s, s < n → g 7 s = -1 ∨ ∃ k, k < 12 ∧ g 7 s = nI k) (hse : f 2 = 0 ∨ f 2 = 1) (hmd0 : f 20 = 0) (htr0 : f 19 = 0) (hft0 : f 17 = 0) (m ad : Nat) (hm : m < 12) (had : ad + L ≤ 4096) (nm : Int32) (fu : Nat) (hfu : fu ≤ 2000) : Ct l G y_TM_bring 5 0 0 [.ref h, .int (nI m), .int nm, .int (nI ad), .int (nI fu)] [TW G h q f g] (rF none [TW G h q (brR f g n L M E P m ad nm fu).1 (brR f g n L M E P m ad nm fu).2]) := by
  refine Ct.of cd_TM_bring (eg_catb rfl) (Nat.le_of_ble_eq_true rfl) ?_
  intro Γ hG
  have hR := hG.rm
  show Ex G Γ mu_TM_bring 0 [some (.ref h), some (.int (nI m)), some (.int nm), some (.int (nI ad)), some (.int (nI fu)), none, none] [] [TW G h q f g] 0 0
  obtain ⟨zL, zM, zE, zP, zL1, zM1, zE1, zP1⟩ := hz
  have hhi : ∀ k, k ≤ P → ∀ b, 32 + L ≤ b → wdA (mnT g n (g 16) L M E (nI ad) k) b = wdA (g 16) b := mnT_hi (by omega) hL4 hpl
  refine ex_k d_TM_bring_0 ?_
  refine ex_is d_TM_bring_1 (Nat.le_of_ble_eq_true rfl) ?_
  have L1 : ∀ j, j ≤ P → (∀ i, i < j → (!(mndB g n (mnT g n (g 16) L M E (nI ad) i) L (plA L M E i) (nI ad))) = false) → Ex G Γ mu_TM_bring 3 [some (.ref h), some (.int (nI m)), some (.int nm), some (.int (nI ad)), some (.int (nI fu)), some (.int (nI j)), none] [] [TW G h q f (va_up g 16 (mnT g n (g 16) L M E (nI ad) j))] 0 0 := by
    refine eg_down P (fun j hj ih hno => ?_)
    refine ex_il d_TM_bring_3 rfl ?_
    refine ex_al d_TM_bring_5 rfl ?_
    refine tg 0 fl_TM_115 d_TM_bring_6 rfl rfl ?_
    refine ex_icmp_ge d_TM_bring_9 (fun h9 => ?_) (fun h9 => ?_)
    · skip
      have h9 := le_n (a := P) h9 zP
      have hjn : P = j := by omega
      subst hjn
      have hbr : brR f g n L M E P m ad nm fu = brI (va_up f 3 (nI (n + E))) (br3 g n L M E m ad nm (f 29) (f 28) (mnT g n (g 16) L M E (nI ad) P)) (n + E) m ad fu := by rw [brR, mnF, tfind_none hno]
      refine ex_k d_TM_bring_41 ?_
      refine ex_is d_TM_bring_42 (Nat.le_of_ble_eq_true rfl) ?_
      have L2 : ∀ j, j ≤ L → Ex G Γ mu_TM_bring 44 [some (.ref h), some (.int (nI m)), some (.int nm), some (.int (nI ad)), some (.int (nI fu)), some (.int (nI j)), none] [] [TW G h q f (va_up (va_up g 16 (mnT g n (g 16) L M E (nI ad) P)) 1 (cpM (g 1) (mnT g n (g 16) L M E (nI ad) P) ad j))] 0 0 := by
        refine eg_down L (fun j hj ih => ?_)
        refine ex_il d_TM_bring_44 rfl ?_
        refine ex_al d_TM_bring_46 rfl ?_
        refine tg 0 fl_TM_96 d_TM_bring_47 rfl rfl ?_
        refine ex_icmp_ge d_TM_bring_50 (fun h50 => ?_) (fun h50 => ?_)
        · skip
          have h50 := le_n (a := L) h50 zL
          have hjn : L = j := by omega
          subst hjn
          refine ex_eqS [TW G h q f (en1 g (mnT g n (g 16) L M E (nI ad) P) m ad L nm (f 29) (f 28))] rfl ?_
          refine ex_al d_TM_bring_78 rfl ?_
          refine tg 0 fl_TM_25 d_TM_bring_79 rfl rfl ?_
          refine ex_il d_TM_bring_82 rfl ?_
          refine ex_k d_TM_bring_83 ?_
          refine ex_eqT [.int (bI true), .int (nI m), .ref (q 8)] rfl ?_
          refine ts_8 0 d_TM_bring_84 rfl (ix_e hm) ?_
          refine ex_eqS [TW G h q f (en2 g (mnT g n (g 16) L M E (nI ad) P) m ad L nm (f 29) (f 28))] rfl ?_
          refine ex_al d_TM_bring_85 rfl ?_
          refine tg 0 fl_TM_29 d_TM_bring_86 rfl rfl ?_
          refine ex_il d_TM_bring_89 rfl ?_
          refine ex_il d_TM_bring_90 rfl ?_
          refine ts_9 0 d_TM_bring_91 rfl (ix_e hm) ?_
          refine ex_eqS [TW G h q f (en3 g (mnT g n (g 16) L M E (nI ad) P) m ad L nm (f 29) (f 28))] rfl ?_
          refine ex_al d_TM_bring_92 rfl ?_
          refine tg 0 fl_TM_32 d_TM_bring_93 rfl rfl ?_
          refine ex_il d_TM_bring_96 rfl ?_
          refine ex_il d_TM_bring_97 rfl ?_
          refine ts_10 0 d_TM_bring_98 rfl (ix_e hm) ?_
          refine ex_eqS [TW G h q f (en4 g (mnT g n (g 16) L M E (nI ad) P) m ad L nm (f 29) (f 28))] rfl ?_
          refine ex_al d_TM_bring_99 rfl ?_
          refine tg 0 fl_TM_35 d_TM_bring_100 rfl rfl ?_
          refine ex_il d_TM_bring_103 rfl ?_
          refine ex_al d_TM_bring_104 rfl ?_
          refine tg 0 fl_TM_96 d_TM_bring_105 rfl rfl ?_
          refine ex_eqT [.int (nI L), .int (nI m), .ref (q 11)] (by rw [zL]) ?_
          refine ts_11 0 d_TM_bring_108 rfl (ix_e hm) ?_
          refine ex_eqS [TW G h q f (en5 g (mnT g n (g 16) L M E (nI ad) P) m ad L nm (f 29) (f 28))] rfl ?_
          refine ex_al d_TM_bring_109 rfl ?_
          refine tg 0 fl_TM_38 d_TM_bring_110 rfl rfl ?_
          refine ex_il d_TM_bring_113 rfl ?_
          refine ex_al d_TM_bring_114 rfl ?_
          refine tg 0 fl_TM_124 d_TM_bring_115 rfl rfl ?_
          refine ts_12 0 d_TM_bring_118 rfl (ix_e hm) ?_
          refine ex_eqS [TW G h q f (en6 g (mnT g n (g 16) L M E (nI ad) P) m ad L nm (f 29) (f 28))] rfl ?_
          refine ex_al d_TM_bring_119 rfl ?_
          refine tg 0 fl_TM_41 d_TM_bring_120 rfl rfl ?_
          refine ex_il d_TM_bring_123 rfl ?_
          refine ex_al d_TM_bring_124 rfl ?_
          refine tg 0 fl_TM_121 d_TM_bring_125 rfl rfl ?_
          refine ts_13 0 d_TM_bring_128 rfl (ix_e hm) ?_
          refine ex_eqS [TW G h q f (entG g (mnT g n (g 16) L M E (nI ad) P) m ad L nm (f 29) (f 28))] rfl ?_
          refine ex_k d_TM_bring_129 ?_
          refine ex_is d_TM_bring_130 (Nat.le_of_ble_eq_true rfl) ?_
          have L3 : ∀ j, j ≤ M → Ex G Γ mu_TM_bring 132 [some (.ref h), some (.int (nI m)), some (.int nm), some (.int (nI ad)), some (.int (nI fu)), some (.int (nI j)), none] [] [TW G h q f (va_up (entG g (mnT g n (g 16) L M E (nI ad) P) m ad L nm (f 29) (f 28)) 14 (ndN g n (mnT g n (g 16) L M E (nI ad) P) L m j))] 0 0 := by
            refine eg_down M (fun j hj ih => ?_)
            refine ex_il d_TM_bring_132 rfl ?_
            refine ex_al d_TM_bring_134 rfl ?_
            refine tg 0 fl_TM_99 d_TM_bring_135 rfl rfl ?_
            refine ex_icmp_ge d_TM_bring_138 (fun h138 => ?_) (fun h138 => ?_)
            · skip
              have h138 := le_n (a := M) h138 zM
              have hjn : M = j := by omega
              subst hjn
              refine ex_k d_TM_bring_186 ?_
              refine ex_is d_TM_bring_187 (Nat.le_of_ble_eq_true rfl) ?_
              have L4 : ∀ j, j ≤ E → Ex G Γ mu_TM_bring 189 [some (.ref h), some (.int (nI m)), some (.int nm), some (.int (nI ad)), some (.int (nI fu)), some (.int (nI j)), none] [] [TW G h q (va_up f 3 (nI (n + j))) (exG (va_up (entG g (mnT g n (g 16) L M E (nI ad) P) m ad L nm (f 29) (f 28)) 14 (ndN g n (mnT g n (g 16) L M E (nI ad) P) L m M)) n (mnT g n (g 16) L M E (nI ad) P) L M ad m j)] 0 0 := by
                refine eg_down E (fun j hj ih => ?_)
                refine ex_il d_TM_bring_189 rfl ?_
                refine ex_al d_TM_bring_191 rfl ?_
                refine tg 0 fl_TM_105 d_TM_bring_192 rfl rfl ?_
                refine ex_icmp_ge d_TM_bring_195 (fun h195 => ?_) (fun h195 => ?_)
                · skip
                  have h195 := le_n (a := E) h195 zE
                  have hjn : E = j := by omega
                  subst hjn
                  have hbr3 : br3 g n L M E m ad nm (f 29) (f 28) (mnT g n (g 16) L M E (nI ad) P) = (exG (va_up (entG g (mnT g n (g 16) L M E (nI ad) P) m ad L nm (f 29) (f 28)) 14 (ndN g n (mnT g n (g 16) L M E (nI ad) P) L m M)) n (mnT g n (g 16) L M E (nI ad) P) L M ad m E) := rfl
                  obtain ⟨g3, hg3⟩ : ∃ g3, (exG (va_up (entG g (mnT g n (g 16) L M E (nI ad) P) m ad L nm (f 29) (f 28)) 14 (ndN g n (mnT g n (g 16) L M E (nI ad) P) L m M)) n (mnT g n (g 16) L M E (nI ad) P) L M ad m E) = g3 := ⟨_, rfl⟩
                  rw [hg3]
                  rw [hbr3, hg3] at hbr
                  refine ex_al d_TM_bring_246 rfl ?_
                  refine tg 0 fl_TM_118 d_TM_bring_247 rfl rfl ?_
                  refine ex_k d_TM_bring_250 ?_
                  refine ex_icmp_ne d_TM_bring_251 (fun h251 => ?_) (fun h251 => ?_)
                  · skip
                    have h251 : ¬ f 27 = -1 := h251
                    have hbr : brR f g n L M E P m ad nm fu = brE (va_up f 3 (nI (n + E))) g3 (runR (va_up f 3 (nI (n + E))) g3 (nI ad + f 27) 0 0 fu) (n + E) m := hbr.trans (if_neg h251)
                    have hrn := c_TM_runs l G h q (va_up f 3 (nI (n + E))) g3 (nI ad + f 27) 0 0 fu hfu hse hmd0 htr0
                    obtain ⟨r, hr⟩ : ∃ r, runR (va_up f 3 (nI (n + E))) g3 (nI ad + f 27) 0 0 fu = r := ⟨_, rfl⟩
                    rw [show mrun (gdB (va_up f 3 (nI (n + E))) g3) fu 0 (g3 1) (rgS (g3 22) 0 0) (nI ad + f 27) = r from hr] at hrn
                    have hkd := mrun_kind (gdB (va_up f 3 (nI (n + E))) g3) fu 0 (g3 1) (rgS (g3 22) 0 0) (nI ad + f 27)
                    rw [show mrun (gdB (va_up f 3 (nI (n + E))) g3) fu 0 (g3 1) (rgS (g3 22) 0 0) (nI ad + f 27) = r from hr] at hkd
                    rw [hr] at hbr
                    refine ex_al d_TM_bring_255 rfl ?_
                    refine ex_il d_TM_bring_256 rfl ?_
                    refine ex_al d_TM_bring_257 rfl ?_
                    refine tg 0 fl_TM_118 d_TM_bring_258 rfl rfl ?_
                    refine ex_iadd d_TM_bring_261 ?_
                    refine ex_k d_TM_bring_262 ?_
                    refine ex_k d_TM_bring_263 ?_
                    refine ex_il d_TM_bring_264 rfl ?_
                    have hr3 : runF (va_up f 3 (nI (n + E))) r 3 = nI (n + E) := by unfold runF runf; split <;> rfl
                    have JR : ∀ (kd : Int32), kd = brK r → ¬ kd = 0 → Ex G Γ mu_TM_bring 310 [some (.ref h), some (.int (nI m)), some (.int nm), some (.int (nI ad)), some (.int (nI fu)), some (.int (nI E)), none] [] [TW G h q (va_up (va_up (runF (va_up f 3 (nI (n + E))) r) 17 kd) 18 (-1)) (gMR g3 r.2.2.2.1 r.2.2.2.2.1)] 0 0 := by
                      intro kd hk hk0
                      have hkp : ¬ kd ≤ 0 := by
                        rw [hk, brK]
                        rw [hk, brK] at hk0
                        rcases hkd with y | y | y
                        · rw [if_pos y.1] at hk0 ⊢
                          by_cases z : r.2.2.2.2.1 10 = 0
                          · exact absurd (if_pos z) hk0
                          · rw [if_neg z]; decide
                        · rw [if_neg (by rw [y.1]; decide), y.1]; decide
                        · rw [if_neg (by rw [y.1]; decide), y.1]; decide
                      refine ex_al d_TM_bring_310 rfl ?_
                      refine tg 0 fl_TM_136 d_TM_bring_311 rfl rfl ?_
                      refine ex_if_le d_TM_bring_314 (fun z => absurd z hkp) (fun _ => ?_)
                      refine ex_al d_TM_bring_317 rfl ?_
                      refine ex_il d_TM_bring_318 rfl ?_
                      refine ex_cV [0] hR (c_TM_remove l G h q (va_up (va_up (runF (va_up f 3 (nI (n + E))) r) 17 kd) 18 (-1)) (gMR g3 r.2.2.2.1 r.2.2.2.2.1) m (n + E) hm hr3 hnE) (eg_invV 0 d_TM_bring_319 cd_TM_remove cx_TM_184 rfl rfl List.mem_cons_self rfl rfl) cd_TM_remove rfl rfl (Nat.le_of_ble_eq_true rfl) (by decide) (by decide) (by decide) (by decide) rfl ?_
                      exact ex_vret [TW G h q (va_up (va_up (va_up (runF (va_up f 3 (nI (n + E))) r) 17 kd) 18 (-1)) 3 (nI (remN (gMR g3 r.2.2.2.1 r.2.2.2.2.1) (n + E) m))) (remG (gMR g3 r.2.2.2.1 r.2.2.2.2.1) (n + E) m)] hG d_TM_bring_322 rfl (by decide) (by decide) (eg_sub.of rfl) ⟨rfl, by rw [hbr, brE, if_neg (by rw [← hk]; exact hk0), hk]⟩
                    refine ex_cF [0] hR (hrn) (eg_invV 0 d_TM_bring_266 cd_TM_runs cx_TM_180 rfl rfl List.mem_cons_self rfl rfl) cd_TM_runs rfl rfl (Nat.le_of_ble_eq_true rfl) (by decide) (by decide) (by decide) (by decide) rfl ?_
                    refine ex_if_ne d_TM_bring_269 (fun h269 => ?_) (fun h269 => ?_)
                    · skip
                      have hz0 : r.1 = 0 := by simpa using fun y => h269 (bI_0.mpr (decide_eq_false y))
                      refine ex_al d_TM_bring_295 rfl ?_
                      refine tg 0 fl_TM_152 d_TM_bring_296 rfl rfl ?_
                      refine ex_if_eq d_TM_bring_299 (fun h299 => ?_) (fun h299 => ?_)
                      · skip
                        have h299 : r.2.2.2.2.1 10 = 0 := by rw [← runF_21 (va_up f 3 (nI (n + E))) r hz0]; exact h299
                        have hbk : brK r = 0 := by rw [brK, if_pos hz0, if_pos h299]
                        refine ex_al d_TM_bring_310 rfl ?_
                        refine tg 0 fl_TM_136 d_TM_bring_311 rfl rfl ?_
                        refine ex_if_le d_TM_bring_314 (fun _ => ?_) (fun z => absurd (by show runF (va_up f 3 (nI (n + E))) r 17 ≤ 0; rw [runF_17]; show f 17 ≤ 0; rw [hft0]; decide) z)
                        exact ex_vret [TW G h q (runF (va_up f 3 (nI (n + E))) r) (gMR g3 r.2.2.2.1 r.2.2.2.2.1)] hG d_TM_bring_322 rfl (by decide) (by decide) (eg_sub.of rfl) ⟨rfl, by rw [hbr, brE, if_pos hbk]⟩
                      · skip
                        have h299 : ¬ r.2.2.2.2.1 10 = 0 := by rw [← runF_21 (va_up f 3 (nI (n + E))) r hz0]; exact h299
                        have hbk : brK r = 10 := by rw [brK, if_pos hz0, if_neg h299]
                        refine ex_al d_TM_bring_302 rfl ?_
                        refine ex_k d_TM_bring_303 ?_
                        refine ex_k d_TM_bring_305 ?_
                        refine ex_cF [0] hR (c_TM_wrong l G h q (runF (va_up f 3 (nI (n + E))) r) (gMR g3 r.2.2.2.1 r.2.2.2.2.1) 10 (-1)) (eg_invV 0 d_TM_bring_306 cd_TM_wrong cx_TM_139 rfl rfl List.mem_cons_self rfl rfl) cd_TM_wrong rfl rfl (Nat.le_of_ble_eq_true rfl) (by decide) (by decide) (by decide) (by decide) rfl ?_
                        refine ex_pop d_TM_bring_309 rfl ?_
                        exact JR 10 (by rw [hbk]) (by decide)
                    · skip
                      have hn0 : ¬ r.1 = 0 := by simpa using bI_0.mp h269
                      have hbk : brK r = r.1 := if_neg hn0
                      refine ex_al d_TM_bring_272 rfl ?_
                      refine ex_al d_TM_bring_273 rfl ?_
                      refine tg 0 fl_TM_146 d_TM_bring_274 rfl rfl ?_
                      refine ex_if_le d_TM_bring_277 (fun h277 => ?_) (fun h277 => ?_)
                      · skip
                        have hk9 : r.1 = 9 := by
                          have e : (runF (va_up f 3 (nI (n + E))) r) 19 = r.2.1 := runF_19 _ r
                          rw [e] at h277
                          rcases hkd with z | z | z
                          · exact absurd z.1 hn0
                          · exact z.1
                          · exact absurd z.2 (Int32.not_lt.mpr h277)
                        refine ex_k d_TM_bring_285 ?_
                        refine ex_k d_TM_bring_287 ?_
                        refine ex_cF [0] hR (c_TM_wrong l G h q (runF (va_up f 3 (nI (n + E))) r) (gMR g3 r.2.2.2.1 r.2.2.2.2.1) 9 (-1)) (eg_invV 0 d_TM_bring_288 cd_TM_wrong cx_TM_139 rfl rfl List.mem_cons_self rfl rfl) cd_TM_wrong rfl rfl (Nat.le_of_ble_eq_true rfl) (by decide) (by decide) (by decide) (by decide) rfl ?_
                        refine ex_pop d_TM_bring_291 rfl ?_
                        refine ex_goto d_TM_bring_292 ?_
                        exact JR 9 (by rw [hbk, hk9]) (by decide)
                      · skip
                        have hk8 : r.1 = 8 := by
                          have e : (runF (va_up f 3 (nI (n + E))) r) 19 = r.2.1 := runF_19 _ r
                          rw [e] at h277
                          rcases hkd with z | z | z
                          · exact absurd z.1 hn0
                          · exact absurd (by rw [z.2]; decide) h277
                          · exact z.1
                        refine ex_k d_TM_bring_280 ?_
                        refine ex_goto d_TM_bring_282 ?_
                        refine ex_k d_TM_bring_287 ?_
                        refine ex_cF [0] hR (c_TM_wrong l G h q (runF (va_up f 3 (nI (n + E))) r) (gMR g3 r.2.2.2.1 r.2.2.2.2.1) 8 (-1)) (eg_invV 0 d_TM_bring_288 cd_TM_wrong cx_TM_139 rfl rfl List.mem_cons_self rfl rfl) cd_TM_wrong rfl rfl (Nat.le_of_ble_eq_true rfl) (by decide) (by decide) (by decide) (by decide) rfl ?_
                        refine ex_pop d_TM_bring_291 rfl ?_
                        refine ex_goto d_TM_bring_292 ?_
                        exact JR 8 (by rw [hbk, hk8]) (by decide)
                  · skip
                    have h251 : f 27 = -1 := h251
                    have hbr : brR f g n L M E P m ad nm fu = ((va_up f 3 (nI (n + E))), g3) := hbr.trans (if_pos h251)
                    exact ex_vret [TW G h q (va_up f 3 (nI (n + E))) g3] hG d_TM_bring_254 rfl (by decide) (by decide) (eg_sub.of rfl) ⟨rfl, by rw [hbr]⟩
                · skip
                  have hlt := lt_n (a := E) h195 zE
                  have hA : exA L M j = 32 + L + 8 * M + 12 * j := rfl
                  obtain ⟨gj, hgj⟩ : ∃ gj, (exG (va_up (entG g (mnT g n (g 16) L M E (nI ad) P) m ad L nm (f 29) (f 28)) 14 (ndN g n (mnT g n (g 16) L M E (nI ad) P) L m M)) n (mnT g n (g 16) L M E (nI ad) P) L M ad m j) = gj := ⟨_, rfl⟩
                  have hg16 : gj 16 = (mnT g n (g 16) L M E (nI ad) P) := by rw [← hgj, exG_16 j 16 (by decide) (by decide) (by decide) (by decide)]; rfl
                  rw [hgj]
                  have ih := ih hlt
                  rw [show (exG (va_up (entG g (mnT g n (g 16) L M E (nI ad) P) m ad L nm (f 29) (f 28)) 14 (ndN g n (mnT g n (g 16) L M E (nI ad) P) L m M)) n (mnT g n (g 16) L M E (nI ad) P) L M ad m (j + 1)) = addG gj (n + j) (wdA (gj 16) (exA L M j)) (wdA (gj 16) (exA L M j + 4)) (nI ad + wdA (gj 16) (exA L M j + 8)) (nI m) by rw [exG, hgj, hg16]] at ih
                  refine ex_al d_TM_bring_198 rfl ?_
                  refine ex_al d_TM_bring_199 rfl ?_
                  refine ex_al d_TM_bring_200 rfl ?_
                  refine ex_il d_TM_bring_201 rfl ?_
                  refine ex_cF [0] hR (c_TM_exportAt l G h q (va_up f 3 (nI (n + j))) gj (nI j)) (eg_invV 0 d_TM_bring_203 cd_TM_exportAt cx_TM_108 rfl rfl List.mem_cons_self rfl rfl) cd_TM_exportAt rfl rfl (Nat.le_of_ble_eq_true rfl) (by decide) (by decide) (by decide) (by decide) rfl ?_
                  refine ex_eqT (.int (nI (exA L M j)) :: _) (by rw [exA_I (show va_up f 3 (nI (n + j)) 26 = nI L from zL) (show va_up f 3 (nI (n + j)) 23 = nI M from zM)]) ?_
                  refine ex_cF [0] hR (c_TM_tapeWord l G h q (va_up f 3 (nI (n + j))) gj (exA L M j) (by omega)) (eg_invV 0 d_TM_bring_206 cd_TM_tapeWord cx_TM_111 rfl rfl List.mem_cons_self rfl rfl) cd_TM_tapeWord rfl rfl (Nat.le_of_ble_eq_true rfl) (by decide) (by decide) (by decide) (by decide) rfl ?_
                  refine ex_al d_TM_bring_209 rfl ?_
                  refine ex_al d_TM_bring_210 rfl ?_
                  refine ex_il d_TM_bring_211 rfl ?_
                  refine ex_cF [0] hR (c_TM_exportAt l G h q (va_up f 3 (nI (n + j))) gj (nI j)) (eg_invV 0 d_TM_bring_213 cd_TM_exportAt cx_TM_108 rfl rfl List.mem_cons_self rfl rfl) cd_TM_exportAt rfl rfl (Nat.le_of_ble_eq_true rfl) (by decide) (by decide) (by decide) (by decide) rfl ?_
                  refine ex_eqT (.int (nI (exA L M j)) :: _) (by rw [exA_I (show va_up f 3 (nI (n + j)) 26 = nI L from zL) (show va_up f 3 (nI (n + j)) 23 = nI M from zM)]) ?_
                  refine ex_k d_TM_bring_216 ?_
                  refine ex_iadd d_TM_bring_217 ?_
                  refine ex_eqT (.int (nI (exA L M j + 4)) :: _) (by show (Value.int (nI _ + nI 4)) :: _ = _; rw [nI_add]) ?_
                  refine ex_cF [0] hR (c_TM_tapeWord l G h q (va_up f 3 (nI (n + j))) gj (exA L M j + 4) (by omega)) (eg_invV 0 d_TM_bring_218 cd_TM_tapeWord cx_TM_111 rfl rfl List.mem_cons_self rfl rfl) cd_TM_tapeWord rfl rfl (Nat.le_of_ble_eq_true rfl) (by decide) (by decide) (by decide) (by decide) rfl ?_
                  refine ex_il d_TM_bring_221 rfl ?_
                  refine ex_al d_TM_bring_222 rfl ?_
                  refine ex_al d_TM_bring_223 rfl ?_
                  refine ex_il d_TM_bring_224 rfl ?_
                  refine ex_cF [0] hR (c_TM_exportAt l G h q (va_up f 3 (nI (n + j))) gj (nI j)) (eg_invV 0 d_TM_bring_226 cd_TM_exportAt cx_TM_108 rfl rfl List.mem_cons_self rfl rfl) cd_TM_exportAt rfl rfl (Nat.le_of_ble_eq_true rfl) (by decide) (by decide) (by decide) (by decide) rfl ?_
                  refine ex_eqT (.int (nI (exA L M j)) :: _) (by rw [exA_I (show va_up f 3 (nI (n + j)) 26 = nI L from zL) (show va_up f 3 (nI (n + j)) 23 = nI M from zM)]) ?_
                  refine ex_k d_TM_bring_229 ?_
                  refine ex_iadd d_TM_bring_231 ?_
                  refine ex_eqT (.int (nI (exA L M j + 8)) :: _) (by show (Value.int (nI _ + nI 8)) :: _ = _; rw [nI_add]) ?_
                  refine ex_cF [0] hR (c_TM_tapeWord l G h q (va_up f 3 (nI (n + j))) gj (exA L M j + 8) (by omega)) (eg_invV 0 d_TM_bring_232 cd_TM_tapeWord cx_TM_111 rfl rfl List.mem_cons_self rfl rfl) cd_TM_tapeWord rfl rfl (Nat.le_of_ble_eq_true rfl) (by decide) (by decide) (by decide) (by decide) rfl ?_
                  refine ex_iadd d_TM_bring_235 ?_
                  refine ex_il d_TM_bring_236 rfl ?_
                  refine ex_cV [0] hR (c_TM_addSymbol l G h q (va_up f 3 (nI (n + j))) gj (wdA (gj 16) (exA L M j)) (wdA (gj 16) (exA L M j + 4)) (nI ad + wdA (gj 16) (exA L M j + 8)) (nI m) (n + j) rfl (by omega)) (eg_invV 0 d_TM_bring_237 cd_TM_addSymbol cx_TM_89 rfl rfl List.mem_cons_self rfl rfl) cd_TM_addSymbol rfl rfl (Nat.le_of_ble_eq_true rfl) (by decide) (by decide) (by decide) (by decide) rfl ?_
                  refine ex_eqS [TW G h q (va_up f 3 (nI (n + (j + 1)))) (addG gj (n + j) (wdA (gj 16) (exA L M j)) (wdA (gj 16) (exA L M j + 4)) (nI ad + wdA (gj 16) (exA L M j + 8)) (nI m))] (by show [TW G h q (va_up (va_up f 3 _) 3 _) _] = _; rw [bx_uu]; rfl) ?_
                  refine ex_inc d_TM_bring_240 rfl ?_
                  refine ex_goto d_TM_bring_243 ?_
                  exact ih
              refine ex_forget [true, true, true, true, true, true, false] ?_
              exact ex_eqS [TW G h q (va_up f 3 (nI (n + 0))) (exG (va_up (entG g (mnT g n (g 16) L M E (nI ad) P) m ad L nm (f 29) (f 28)) 14 (ndN g n (mnT g n (g 16) L M E (nI ad) P) L m M)) n (mnT g n (g 16) L M E (nI ad) P) L M ad m 0)] (by rw [Nat.add_zero, va_up_id hn]; rfl) (L4 0 (Nat.zero_le _))
            · skip
              have hlt := lt_n (a := M) h138 zM
              have hA : imA L j = 32 + L + 8 * j := rfl
              obtain ⟨s, hs⟩ := Option.isSome_iff_exists.mp (hfd j hlt)
              have hs : tsym g n (wdA (mnT g n (g 16) L M E (nI ad) P) (imA L j)) = some s := by rw [hhi P (Nat.le_refl _) _ (by omega)]; exact hs
              have hsl := (tfind_lt hs).1
              refine ex_al d_TM_bring_141 rfl ?_
              refine tg 0 fl_TM_22 d_TM_bring_142 rfl rfl ?_
              refine ex_al d_TM_bring_145 rfl ?_
              refine ex_al d_TM_bring_146 rfl ?_
              refine ex_al d_TM_bring_147 rfl ?_
              refine ex_il d_TM_bring_148 rfl ?_
              refine ex_cF [0] hR (c_TM_importAt l G h q f (va_up (entG g (mnT g n (g 16) L M E (nI ad) P) m ad L nm (f 29) (f 28)) 14 (ndN g n (mnT g n (g 16) L M E (nI ad) P) L m j)) (nI j)) (eg_invV 0 d_TM_bring_150 cd_TM_importAt cx_TM_102 rfl rfl List.mem_cons_self rfl rfl) cd_TM_importAt rfl rfl (Nat.le_of_ble_eq_true rfl) (by decide) (by decide) (by decide) (by decide) rfl ?_
              refine ex_eqT (.int (nI (imA L j)) :: _) (by rw [imA_I zL]) ?_
              refine ex_cF [0] hR (c_TM_tapeWord l G h q f (va_up (entG g (mnT g n (g 16) L M E (nI ad) P) m ad L nm (f 29) (f 28)) 14 (ndN g n (mnT g n (g 16) L M E (nI ad) P) L m j)) (imA L j) (by omega)) (eg_invV 0 d_TM_bring_153 cd_TM_tapeWord cx_TM_111 rfl rfl List.mem_cons_self rfl rfl) cd_TM_tapeWord rfl rfl (Nat.le_of_ble_eq_true rfl) (by decide) (by decide) (by decide) (by decide) rfl ?_
              refine ex_cF [0] hR (c_TM_find l G h q f (va_up (entG g (mnT g n (g 16) L M E (nI ad) P) m ad L nm (f 29) (f 28)) 14 (ndN g n (mnT g n (g 16) L M E (nI ad) P) L m j)) (wdA (mnT g n (g 16) L M E (nI ad) P) (imA L j)) n hn hn2) (eg_invV 0 d_TM_bring_156 cd_TM_find cx_TM_86 rfl rfl List.mem_cons_self rfl rfl) cd_TM_find rfl rfl (Nat.le_of_ble_eq_true rfl) (by decide) (by decide) (by decide) (by decide) rfl ?_
              refine tl_7 0 d_TM_bring_159 rfl (ix_e (j := s) (by omega) (by show oI (tsym g n (wdA (mnT g n (g 16) L M E (nI ad) P) (imA L j))) = _; rw [hs]; rfl)) ?_
              refine ex_eqT [.int (g 7 ((tsym g n (wdA (mnT g n (g 16) L M E (nI ad) P) (imA L j))).getD 0))] (by rw [hs]; rfl) ?_
              refine ex_is d_TM_bring_160 (Nat.le_of_ble_eq_true rfl) ?_
              refine ex_il d_TM_bring_162 rfl ?_
              refine ex_if_lt d_TM_bring_164 (fun h164 => ?_) (fun h164 => ?_)
              · skip
                skip
                refine ex_inc d_TM_bring_180 rfl ?_
                refine ex_goto d_TM_bring_183 ?_
                refine ex_forget [true, true, true, true, true, true, false] ?_
                exact ex_eqS [TW G h q f (va_up (entG g (mnT g n (g 16) L M E (nI ad) P) m ad L nm (f 29) (f 28)) 14 (ndN g n (mnT g n (g 16) L M E (nI ad) P) L m (j + 1)))] (by rw [show (ndN g n (mnT g n (g 16) L M E (nI ad) P) L m (j + 1)) = (ndN g n (mnT g n (g 16) L M E (nI ad) P) L m j) from if_pos h164]; rfl) (ih hlt)
              · skip
                obtain ⟨w7, hw7, hw8⟩ : ∃ w7, w7 < 12 ∧ g 7 ((tsym g n (wdA (mnT g n (g 16) L M E (nI ad) P) (imA L j))).getD 0) = nI w7 := by
                  rcases hof s hsl with z | z
                  · rw [hs] at h164; exact absurd (by show g 7 s < 0; rw [z]; decide) h164
                  · rw [hs]; exact z
                refine ex_al d_TM_bring_167 rfl ?_
                refine tg 0 fl_TM_44 d_TM_bring_168 rfl rfl ?_
                refine ex_k d_TM_bring_171 ?_
                refine ex_il d_TM_bring_173 rfl ?_
                refine ex_imul d_TM_bring_174 ?_
                refine ex_il d_TM_bring_175 rfl ?_
                refine ex_iadd d_TM_bring_177 ?_
                refine ex_k d_TM_bring_178 ?_
                refine ex_eqT [.int (bI true), .int (nI (12 * m + w7)), .ref (q 14)] (by rw [hw8]; show [Value.int 1, .int (nI 12 * nI m + nI w7), _] = _; rw [pk_mul, nI_add]; rfl) ?_
                refine ts_14 0 d_TM_bring_179 rfl (ix_e (j := 12 * m + w7) (by omega)) ?_
                refine ex_eqS [TW G h q f (va_up (entG g (mnT g n (g 16) L M E (nI ad) P) m ad L nm (f 29) (f 28)) 14 (ndN g n (mnT g n (g 16) L M E (nI ad) P) L m (j + 1)))] (by show [TW G h q f (va_up (va_up _ 14 _) 14 _)] = _; rw [bx_uu, show (ndN g n (mnT g n (g 16) L M E (nI ad) P) L m (j + 1)) = upd (ndN g n (mnT g n (g 16) L M E (nI ad) P) L m j) (12 * m + w7) 1 by rw [ndN, if_neg h164, hw8, nI_clamp (by omega)]]; rfl) ?_
                refine ex_inc d_TM_bring_180 rfl ?_
                refine ex_goto d_TM_bring_183 ?_
                refine ex_forget [true, true, true, true, true, true, false] ?_
                exact ih hlt
          exact ex_eqS [TW G h q f (va_up (entG g (mnT g n (g 16) L M E (nI ad) P) m ad L nm (f 29) (f 28)) 14 (ndN g n (mnT g n (g 16) L M E (nI ad) P) L m 0))] (by rw [ndN, va_up_id (f := (entG g (mnT g n (g 16) L M E (nI ad) P) m ad L nm (f 29) (f 28))) (k := 14) (v := g 14) rfl]) (L3 0 (Nat.zero_le _))
        · skip
          have hlt := lt_n (a := L) h50 zL
          refine ex_al d_TM_bring_53 rfl ?_
          refine tg 0 fl_TM_7 d_TM_bring_54 rfl rfl ?_
          refine ex_il d_TM_bring_57 rfl ?_
          refine ex_il d_TM_bring_58 rfl ?_
          refine ex_iadd d_TM_bring_60 ?_
          refine ex_al d_TM_bring_61 rfl ?_
          refine tg 0 fl_TM_47 d_TM_bring_62 rfl rfl ?_
          refine ex_k d_TM_bring_65 ?_
          refine ex_il d_TM_bring_67 rfl ?_
          refine ex_iadd d_TM_bring_69 ?_
          refine tl_16 0 d_TM_bring_70 rfl (ix_e (j := 32 + j) (by omega) (by show nI 32 + nI j = _; rw [nI_add])) ?_
          refine ts_1 0 d_TM_bring_71 rfl (ix_e (j := ad + j) (by omega) (nI_add ad j)) ?_
          refine ex_eqS [TW G h q f (va_up (va_up g 16 (mnT g n (g 16) L M E (nI ad) P)) 1 (cpM (g 1) (mnT g n (g 16) L M E (nI ad) P) ad (j + 1)))] (by show [TW G h q f (va_up (va_up _ 1 _) 1 _)] = _; rw [bx_uu]; rfl) ?_
          refine ex_inc d_TM_bring_72 rfl ?_
          refine ex_goto d_TM_bring_75 ?_
          exact ih hlt
      exact ex_eqS [TW G h q f (va_up (va_up g 16 (mnT g n (g 16) L M E (nI ad) P)) 1 (cpM (g 1) (mnT g n (g 16) L M E (nI ad) P) ad 0))] (by rw [cpM, va_up_id (f := va_up g 16 (mnT g n (g 16) L M E (nI ad) P)) (k := 1) (v := g 1) rfl]) (L2 0 (Nat.zero_le _))
    · skip
      have hlt := lt_n (a := P) h9 zP
      obtain ⟨pq1, pq2, pq3, pq4⟩ := hpl j hlt
      have hpA : plA L M E j = 32 + L + 8 * M + 12 * E + 16 * j := rfl
      have hmd := c_TM_mend l G h q f (va_up g 16 (mnT g n (g 16) L M E (nI ad) j)) n hn hn2 L M E P ⟨zL, zM, zE, zP, zL1, zM1, zE1, zP1⟩ (nI ad) j hlt (by show 0 ≤ wdA (mnT g n (g 16) L M E (nI ad) j) _ ∧ wdA (mnT g n (g 16) L M E (nI ad) j) _ ≤ 5; rw [hhi j (by omega) _ (by omega)]; exact pq1) (by show isWd (wdA (mnT g n (g 16) L M E (nI ad) j) _) _ = true; rw [hhi j (by omega) _ (by omega)]; exact pq2) (by show -1 ≤ wdA (mnT g n (g 16) L M E (nI ad) j) _; rw [hhi j (by omega) _ (by omega)]; exact pq3) (by show wdA (mnT g n (g 16) L M E (nI ad) j) _ < _; rw [hhi j (by omega) _ (by omega)]; exact pq4) (fun i hi => by show (tsym g n (wdA (mnT g n (g 16) L M E (nI ad) j) _)).isSome = true; rw [hhi j (by omega) _ (by unfold imA; omega)]; exact hfd i hi)
      rw [show mndB (va_up g 16 (mnT g n (g 16) L M E (nI ad) j)) n ((va_up g 16 (mnT g n (g 16) L M E (nI ad) j)) 16) L (plA L M E j) (nI ad) = mndB g n (mnT g n (g 16) L M E (nI ad) j) L (plA L M E j) (nI ad) from rfl] at hmd
      refine ex_al d_TM_bring_12 rfl ?_
      refine ex_il d_TM_bring_13 rfl ?_
      refine ex_il d_TM_bring_14 rfl ?_
      refine ex_cF [0] hR (hmd) (eg_invV 0 d_TM_bring_16 cd_TM_mend cx_TM_177 rfl rfl List.mem_cons_self rfl rfl) cd_TM_mend rfl rfl (Nat.le_of_ble_eq_true rfl) (by decide) (by decide) (by decide) (by decide) rfl ?_
      refine ex_if_eq d_TM_bring_19 (fun h19 => ?_) (fun h19 => ?_)
      · skip
        have h19 := bI_0.mp h19
        refine ex_eqS [TW G h q f (va_up g 16 (mnT g n (g 16) L M E (nI ad) j))] (by show [TW G h q f (if _ then _ else _)] = _; rw [if_neg (by rw [h19]; decide)]) ?_
        refine ex_al d_TM_bring_25 rfl ?_
        refine ex_k d_TM_bring_26 ?_
        refine ex_il d_TM_bring_28 rfl ?_
        refine ex_cF [0] hR (c_TM_wrong l G h q f (va_up g 16 (mnT g n (g 16) L M E (nI ad) j)) 7 (nI j)) (eg_invV 0 d_TM_bring_30 cd_TM_wrong cx_TM_139 rfl rfl List.mem_cons_self rfl rfl) cd_TM_wrong rfl rfl (Nat.le_of_ble_eq_true rfl) (by decide) (by decide) (by decide) (by decide) rfl ?_
        refine ex_pop d_TM_bring_33 rfl ?_
        have hbr : brR f g n L M E P m ad nm fu = (va_up (va_up f 17 7) 18 (nI j), va_up g 16 (mnT g n (g 16) L M E (nI ad) j)) := by rw [brR, mnF, tfind_some (j := j) hlt (by rw [h19]; rfl) hno]
        exact ex_vret [TW G h q (va_up (va_up f 17 7) 18 (nI j)) (va_up g 16 (mnT g n (g 16) L M E (nI ad) j))] hG d_TM_bring_34 rfl (by decide) (by decide) (eg_sub.of rfl) ⟨rfl, by rw [hbr]⟩
      · skip
        have h19 : mndB g n (mnT g n (g 16) L M E (nI ad) j) L (plA L M E j) (nI ad) = true := by cases hb : mndB g n (mnT g n (g 16) L M E (nI ad) j) L (plA L M E j) (nI ad); exact absurd (bI_0.mpr hb) h19; rfl
        refine ex_goto d_TM_bring_22 ?_
        refine ex_inc d_TM_bring_35 rfl ?_
        refine ex_goto d_TM_bring_38 ?_
        exact ex_eqS [TW G h q f (va_up g 16 (mnT g n (g 16) L M E (nI ad) (j + 1)))] (by show [TW G h q f (if _ then _ else _)] = _; rw [if_pos h19]; show [TW G h q f (va_up (va_up g 16 _) 16 _)] = _; rw [bx_uu]; rfl) (ih hlt (fun i hi => by rcases Nat.lt_or_ge i j with z | z; exact hno i z; rw [show i = j by omega, h19]; rfl))
  exact ex_eqS [TW G h q f (va_up g 16 (mnT g n (g 16) L M E (nI ad) 0))] (by rw [mnT, va_up_same]) (L1 0 (Nat.zero_le _) (fun i hi => absurd hi (Nat.not_lt_zero _)))
