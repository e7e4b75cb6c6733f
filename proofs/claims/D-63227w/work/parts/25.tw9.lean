/-! THE TWIN, 9: files -/
def hd1 (f : Nat → Int32) (T : Nat → Int32) : Nat → Int32 := va_up f 26 (wdA T 4)
def hd2 (f : Nat → Int32) (T : Nat → Int32) : Nat → Int32 := va_up (hd1 f T) 23 (wdA T 8)
def hd3 (f : Nat → Int32) (T : Nat → Int32) : Nat → Int32 := va_up (hd2 f T) 24 (wdA T 12)
def hd4 (f : Nat → Int32) (T : Nat → Int32) : Nat → Int32 := va_up (hd3 f T) 25 (wdA T 16)
def hd5 (f : Nat → Int32) (T : Nat → Int32) : Nat → Int32 := va_up (hd4 f T) 27 (wdA T 20)
def hd6 (f : Nat → Int32) (T : Nat → Int32) : Nat → Int32 := va_up (hd5 f T) 28 (wdA T 24)
def hdF (f : Nat → Int32) (T : Nat → Int32) : Nat → Int32 := va_up (hd6 f T) 29 (wdA T 28)
def fL (T : Nat → Int32) : Nat := (wdA T 4).toNatClampNeg
def fM (T : Nat → Int32) : Nat := (wdA T 8).toNatClampNeg
def fE (T : Nat → Int32) : Nat := (wdA T 12).toNatClampNeg
def fP (T : Nat → Int32) : Nat := (wdA T 16).toNatClampNeg
def imA (L k : Nat) : Nat := 32 + L + 8 * k
def exA (L M k : Nat) : Nat := 32 + L + 8 * M + 12 * k
def plA (L M E k : Nat) : Nat := 32 + L + 8 * M + 12 * E + 16 * k
def h1B (T : Nat → Int32) : Bool := decide (4 ≤ wdA T 4) && decide (wdA T 4 ≤ 512) && decide (wdA T 4 - wdA T 4 / 4 * 4 = 0) && decide (0 ≤ wdA T 8) && decide (wdA T 8 ≤ 8) && decide (0 ≤ wdA T 12) && decide (wdA T 12 ≤ 8) && decide (0 ≤ wdA T 16) && decide (wdA T 16 ≤ 24)
def h2B (T : Nat → Int32) : Bool := (decide (wdA T 20 = -1) || isWd (wdA T 20) (wdA T 4)) && (decide (wdA T 24 = -1) || isWd (wdA T 24) (wdA T 4)) && (decide (wdA T 28 = wdA T 4) || isWd (wdA T 28) (wdA T 4))
def szI (T : Nat → Int32) : Int32 := 32 + wdA T 4 + 8 * wdA T 8 + 12 * wdA T 12 + 16 * wdA T 16
def imP (T : Nat → Int32) (k : Nat) : Bool := nmB (wdA T (imA (fL T) k))
def exQ (T : Nat → Int32) (k j : Nat) : Bool := decide (¬ wdA T (exA (fL T) (fM T) j) = wdA T (exA (fL T) (fM T) k))
def exP (T : Nat → Int32) (k : Nat) : Bool := nmB (wdA T (exA (fL T) (fM T) k)) && isWd (wdA T (exA (fL T) (fM T) k + 8)) (wdA T 4) && rall (exQ T k) k
def plP (T : Nat → Int32) (k : Nat) : Bool := decide (0 ≤ wdA T (plA (fL T) (fM T) (fE T) k)) && decide (wdA T (plA (fL T) (fM T) (fE T) k) ≤ 5) && isWd (wdA T (plA (fL T) (fM T) (fE T) k + 4)) (wdA T 4) && decide (-1 ≤ wdA T (plA (fL T) (fM T) (fE T) k + 8)) && decide (wdA T (plA (fL T) (fM T) (fE T) k + 8) < wdA T 8)
def h0B (T : Nat → Int32) (t : Nat) : Bool := decide (32 ≤ t) && decide (wdA T 0 = 1297040469)
def filB (T : Nat → Int32) (t : Nat) : Bool := h0B T t && h1B T && h2B T && decide (nI t = szI T) && rall (imP T) (fM T) && rall (exP T) (fE T) && rall (plP T) (fP T)
def filF (f : Nat → Int32) (T : Nat → Int32) (t : Nat) : Nat → Int32 := if h0B T t = true then hdF f T else f
theorem clamp_e {x : Int32} {j : Nat} (h : x = nI j) (hj : j < 2 ^ 31) : x = nI x.toNatClampNeg := by rw [h, nI_clamp hj]
theorem h1B_of {T : Nat → Int32} (h : h1B T = true) : (wdA T 4 = nI (fL T) ∧ 4 ≤ fL T ∧ fL T ≤ 512 ∧ fL T % 4 = 0) ∧ (wdA T 8 = nI (fM T) ∧ fM T ≤ 8) ∧ (wdA T 12 = nI (fE T) ∧ fE T ≤ 8) ∧ (wdA T 16 = nI (fP T) ∧ fP T ≤ 24) := by
  simp only [h1B, Bool.and_eq_true, decide_eq_true_eq] at h
  obtain ⟨⟨⟨⟨⟨⟨⟨⟨a1, a2⟩, a3⟩, b1⟩, b2⟩, c1⟩, c2⟩, d1⟩, d2⟩ := h
  obtain ⟨a, ha, ea⟩ := nI_of2 (x := wdA T 4) (M := 512) (n := 512) rfl (by intro z; exact absurd (Int32.le_of_lt (Int32.lt_of_le_of_lt a1 z)) (by decide)) a2
  obtain ⟨b, hb, eb⟩ := nI_of2 (x := wdA T 8) (M := 8) (n := 8) rfl (Int32.not_lt.mpr b1) b2
  obtain ⟨c, hc, ec⟩ := nI_of2 (x := wdA T 12) (M := 8) (n := 8) rfl (Int32.not_lt.mpr c1) c2
  obtain ⟨d, hd, ed⟩ := nI_of2 (x := wdA T 16) (M := 24) (n := 24) rfl (Int32.not_lt.mpr d1) d2
  have za : fL T = a := by rw [fL, ea, nI_clamp (by omega)]
  have zb : fM T = b := by rw [fM, eb, nI_clamp (by omega)]
  have zc : fE T = c := by rw [fE, ec, nI_clamp (by omega)]
  have zd : fP T = d := by rw [fP, ed, nI_clamp (by omega)]
  rw [za, zb, zc, zd]
  refine ⟨⟨ea, ?_, ha, ?_⟩, ⟨eb, hb⟩, ⟨ec, hc⟩, ⟨ed, hd⟩⟩
  · rw [ea] at a1
    exact (nI_leI (a := 4) (by decide) (by omega)).mp a1
  · rw [ea] at a3
    have e := pk_rem (a := a) (d := 4) (by omega) (by decide) (by decide)
    rw [show (nI 4 : Int32) = 4 from rfl, a3] at e
    exact ((nI_eq (a := 0) (b := a % 4) (by decide) (by omega)).mp e).symm
theorem imA_I {x : Int32} {L k : Nat} (h : x = nI L) : 32 + x + 8 * nI k = nI (imA L k) := by
  rw [h, imA]; show nI 32 + nI L + nI 8 * nI k = _; rw [pk_mul, nI_add, nI_add]
theorem exA_I {x y : Int32} {L M k : Nat} (h : x = nI L) (h2 : y = nI M) : 32 + x + 8 * y + 12 * nI k = nI (exA L M k) := by
  rw [h, h2, exA]; show nI 32 + nI L + nI 8 * nI M + nI 12 * nI k = _; rw [pk_mul, pk_mul, nI_add, nI_add, nI_add]
theorem plA_I {x y z : Int32} {L M E k : Nat} (h : x = nI L) (h2 : y = nI M) (h3 : z = nI E) : 32 + x + 8 * y + 12 * z + 16 * nI k = nI (plA L M E k) := by
  rw [h, h2, h3, plA]; show nI 32 + nI L + nI 8 * nI M + nI 12 * nI E + nI 16 * nI k = _; rw [pk_mul, pk_mul, pk_mul, nI_add, nI_add, nI_add, nI_add]
theorem szI_of {T : Nat → Int32} (h : h1B T = true) : szI T = nI (plA (fL T) (fM T) (fE T) (fP T)) := by
  obtain ⟨⟨a, -⟩, ⟨b, -⟩, ⟨c, -⟩, ⟨d, -⟩⟩ := h1B_of h
  rw [← plA_I a b c, ← d]; rfl
theorem filB_e {T : Nat → Int32} {t : Nat} (h0 : h0B T t = true) (h1 : h1B T = true) (h2 : h2B T = true) (h3 : nI t = szI T) : filB T t = (rall (imP T) (fM T) && rall (exP T) (fE T) && rall (plP T) (fP T)) := by
  rw [filB, h0, h1, h2, decide_eq_true h3]
  simp
set_option maxRecDepth 100000 in
set_option maxHeartbeats 4000000 in
theorem c_TM_isFile (l : Launch) (G : eg_G) (h : Nat) (q : Nat → Nat) (f : Nat → Int32) (g : Nat → Nat → Int32) (t : Nat) (ht2 : t ≤ 1200) : Ct l G y_TM_isFile 4 0 0 [.ref h, .int (nI t)] [TW G h q f g] (rF (some (.int (bI (filB (g 16) t)))) [TW G h q (filF f (g 16) t) g]) := by
  refine Ct.of cd_TM_isFile (eg_catb rfl) (Nat.le_of_ble_eq_true rfl) ?_
  intro Γ hG
  have hR := hG.rm
  show Ex G Γ mu_TM_isFile 0 [some (.ref h), some (.int (nI t)), none, none, none, none] [] [TW G h q f g] 0 0
  have hbad : h0B (g 16) t = false → Ex G Γ mu_TM_isFile 16 [some (.ref h), some (.int (nI t)), none, none, none, none] [] [TW G h q f g] 0 0 := by
    intro hb
    refine ex_k d_TM_isFile_16 ?_
    exact ex_iret [TW G h q f g] hG d_TM_isFile_17 rfl rfl (by decide) (by decide) (eg_sub.of rfl) ⟨by rw [filB, hb]; rfl, by rw [filF, if_neg (by rw [hb]; decide)]⟩
  refine ex_il d_TM_isFile_0 rfl ?_
  refine ex_k d_TM_isFile_1 ?_
  refine ex_icmp_lt d_TM_isFile_3 (fun h3 => ?_) (fun h3 => ?_)
  · skip
    exact hbad (by
      have : ¬ 32 ≤ t := fun z => absurd h3 (Int32.not_lt.mpr ((nI_leI (a := 32) (by decide) (by omega)).mpr z))
      rw [h0B, decide_eq_false this]; rfl)
  · skip
    have h3 : 32 ≤ t := (nI_leI (a := 32) (by decide) (by omega)).mp (Int32.not_lt.mp h3)
    refine ex_al d_TM_isFile_6 rfl ?_
    refine ex_k d_TM_isFile_7 ?_
    refine ex_cF [0] hR (c_TM_tapeWord l G h q f g 0 (by decide)) (eg_invV 0 d_TM_isFile_8 cd_TM_tapeWord cx_TM_111 rfl rfl List.mem_cons_self rfl rfl) cd_TM_tapeWord rfl rfl (Nat.le_of_ble_eq_true rfl) (by decide) (by decide) (by decide) (by decide) rfl ?_
    refine ex_k d_TM_isFile_11 ?_
    refine ex_icmp_eq d_TM_isFile_13 (fun h13 => ?_) (fun h13 => ?_)
    · skip
      have h0 : h0B (g 16) t = true := by rw [h0B, decide_eq_true h3, decide_eq_true h13]; rfl
      clear hbad
      refine ex_al d_TM_isFile_18 rfl ?_
      refine ex_al d_TM_isFile_19 rfl ?_
      refine ex_k d_TM_isFile_20 ?_
      refine ex_cF [0] hR (c_TM_tapeWord l G h q f g 4 (by decide)) (eg_invV 0 d_TM_isFile_21 cd_TM_tapeWord cx_TM_111 rfl rfl List.mem_cons_self rfl rfl) cd_TM_tapeWord rfl rfl (Nat.le_of_ble_eq_true rfl) (by decide) (by decide) (by decide) (by decide) rfl ?_
      refine tp_26 0 wl_TM_96 d_TM_isFile_24 rfl ?_
      refine ex_eqS [TW G h q (hd1 f (g 16)) g] rfl ?_
      refine ex_al d_TM_isFile_27 rfl ?_
      refine ex_al d_TM_isFile_28 rfl ?_
      refine ex_k d_TM_isFile_29 ?_
      refine ex_cF [0] hR (c_TM_tapeWord l G h q (hd1 f (g 16)) g 8 (by decide)) (eg_invV 0 d_TM_isFile_31 cd_TM_tapeWord cx_TM_111 rfl rfl List.mem_cons_self rfl rfl) cd_TM_tapeWord rfl rfl (Nat.le_of_ble_eq_true rfl) (by decide) (by decide) (by decide) (by decide) rfl ?_
      refine tp_23 0 wl_TM_99 d_TM_isFile_34 rfl ?_
      refine ex_eqS [TW G h q (hd2 f (g 16)) g] rfl ?_
      refine ex_al d_TM_isFile_37 rfl ?_
      refine ex_al d_TM_isFile_38 rfl ?_
      refine ex_k d_TM_isFile_39 ?_
      refine ex_cF [0] hR (c_TM_tapeWord l G h q (hd2 f (g 16)) g 12 (by decide)) (eg_invV 0 d_TM_isFile_41 cd_TM_tapeWord cx_TM_111 rfl rfl List.mem_cons_self rfl rfl) cd_TM_tapeWord rfl rfl (Nat.le_of_ble_eq_true rfl) (by decide) (by decide) (by decide) (by decide) rfl ?_
      refine tp_24 0 wl_TM_105 d_TM_isFile_44 rfl ?_
      refine ex_eqS [TW G h q (hd3 f (g 16)) g] rfl ?_
      refine ex_al d_TM_isFile_47 rfl ?_
      refine ex_al d_TM_isFile_48 rfl ?_
      refine ex_k d_TM_isFile_49 ?_
      refine ex_cF [0] hR (c_TM_tapeWord l G h q (hd3 f (g 16)) g 16 (by decide)) (eg_invV 0 d_TM_isFile_51 cd_TM_tapeWord cx_TM_111 rfl rfl List.mem_cons_self rfl rfl) cd_TM_tapeWord rfl rfl (Nat.le_of_ble_eq_true rfl) (by decide) (by decide) (by decide) (by decide) rfl ?_
      refine tp_25 0 wl_TM_115 d_TM_isFile_54 rfl ?_
      refine ex_eqS [TW G h q (hd4 f (g 16)) g] rfl ?_
      refine ex_al d_TM_isFile_57 rfl ?_
      refine ex_al d_TM_isFile_58 rfl ?_
      refine ex_k d_TM_isFile_59 ?_
      refine ex_cF [0] hR (c_TM_tapeWord l G h q (hd4 f (g 16)) g 20 (by decide)) (eg_invV 0 d_TM_isFile_61 cd_TM_tapeWord cx_TM_111 rfl rfl List.mem_cons_self rfl rfl) cd_TM_tapeWord rfl rfl (Nat.le_of_ble_eq_true rfl) (by decide) (by decide) (by decide) (by decide) rfl ?_
      refine tp_27 0 wl_TM_118 d_TM_isFile_64 rfl ?_
      refine ex_eqS [TW G h q (hd5 f (g 16)) g] rfl ?_
      refine ex_al d_TM_isFile_67 rfl ?_
      refine ex_al d_TM_isFile_68 rfl ?_
      refine ex_k d_TM_isFile_69 ?_
      refine ex_cF [0] hR (c_TM_tapeWord l G h q (hd5 f (g 16)) g 24 (by decide)) (eg_invV 0 d_TM_isFile_71 cd_TM_tapeWord cx_TM_111 rfl rfl List.mem_cons_self rfl rfl) cd_TM_tapeWord rfl rfl (Nat.le_of_ble_eq_true rfl) (by decide) (by decide) (by decide) (by decide) rfl ?_
      refine tp_28 0 wl_TM_121 d_TM_isFile_74 rfl ?_
      refine ex_eqS [TW G h q (hd6 f (g 16)) g] rfl ?_
      refine ex_al d_TM_isFile_77 rfl ?_
      refine ex_al d_TM_isFile_78 rfl ?_
      refine ex_k d_TM_isFile_79 ?_
      refine ex_cF [0] hR (c_TM_tapeWord l G h q (hd6 f (g 16)) g 28 (by decide)) (eg_invV 0 d_TM_isFile_81 cd_TM_tapeWord cx_TM_111 rfl rfl List.mem_cons_self rfl rfl) cd_TM_tapeWord rfl rfl (Nat.le_of_ble_eq_true rfl) (by decide) (by decide) (by decide) (by decide) rfl ?_
      refine tp_29 0 wl_TM_124 d_TM_isFile_84 rfl ?_
      refine ex_eqS [TW G h q (hdF f (g 16)) g] rfl ?_
      have hF : filF f (g 16) t = hdF f (g 16) := if_pos h0
      have e26 : hdF f (g 16) 26 = wdA (g 16) 4 := rfl
      have e23 : hdF f (g 16) 23 = wdA (g 16) 8 := rfl
      have e24 : hdF f (g 16) 24 = wdA (g 16) 12 := rfl
      have e25 : hdF f (g 16) 25 = wdA (g 16) 16 := rfl
      have e27 : hdF f (g 16) 27 = wdA (g 16) 20 := rfl
      have e28 : hdF f (g 16) 28 = wdA (g 16) 24 := rfl
      have e29 : hdF f (g 16) 29 = wdA (g 16) 28 := rfl
      have hbad : filB (g 16) t = false → ∀ u : Option Value, Ex G Γ mu_TM_isFile 263 [some (.ref h), some (.int (nI t)), u, none, none, none] [] [TW G h q (hdF f (g 16)) g] 0 0 := by
        intro hb u
        refine ex_k d_TM_isFile_263 ?_
        exact ex_iret [TW G h q (hdF f (g 16)) g] hG d_TM_isFile_264 rfl rfl (by decide) (by decide) (eg_sub.of rfl) ⟨by rw [hb]; rfl, by rw [hF]⟩
      have J1 : ∀ z : Int32, z = bI (h1B (g 16)) → Ex G Γ mu_TM_isFile 167 [some (.ref h), some (.int (nI t)), none, none, none, none] [.int z] [TW G h q (hdF f (g 16)) g] 0 0 := by
        intro z hz
        subst hz
        refine ex_is d_TM_isFile_167 (Nat.le_of_ble_eq_true rfl) ?_
        have J2 : ∀ z : Int32, z = bI (h1B (g 16) && h2B (g 16)) → Ex G Γ mu_TM_isFile 246 [some (.ref h), some (.int (nI t)), some (.int (bI (h1B (g 16)))), none, none, none] [.int z] [TW G h q (hdF f (g 16)) g] 0 0 := by
          intro z hz
          subst hz
          refine ex_is d_TM_isFile_246 (Nat.le_of_ble_eq_true rfl) ?_
          refine ex_il d_TM_isFile_247 rfl ?_
          refine ex_if_eq d_TM_isFile_248 (fun h248 => ?_) (fun h248 => ?_)
          · skip
            exact hbad (by have := bI_0.mp h248; clear hbad hG hR; grind [filB]) _
          · skip
            have h12 : (h1B (g 16) && h2B (g 16)) = true := by cases hb : (h1B (g 16) && h2B (g 16)); exact absurd (bI_0.mpr hb) h248; rfl
            have h1 : h1B (g 16) = true := by clear hbad hG hR; grind
            have h2 : h2B (g 16) = true := by clear hbad hG hR; grind
            obtain ⟨⟨eL, eL1, eL2, eL3⟩, ⟨eM, eM1⟩, ⟨eE, eE1⟩, ⟨eP, eP1⟩⟩ := h1B_of h1
            refine ex_il d_TM_isFile_251 rfl ?_
            refine ex_al d_TM_isFile_252 rfl ?_
            refine ex_al d_TM_isFile_253 rfl ?_
            refine tg 0 fl_TM_115 d_TM_isFile_254 rfl rfl ?_
            refine ex_cF [0] hR (c_TM_placeAt l G h q (hdF f (g 16)) g _) (eg_invV 0 d_TM_isFile_257 cd_TM_placeAt cx_TM_130 rfl rfl List.mem_cons_self rfl rfl) cd_TM_placeAt rfl rfl (Nat.le_of_ble_eq_true rfl) (by decide) (by decide) (by decide) (by decide) rfl ?_
            refine ex_icmp_eq d_TM_isFile_260 (fun h260 => ?_) (fun h260 => ?_)
            · skip
              have hsz : nI t = szI (g 16) := h260
              clear hbad
              have hfe := filB_e h0 h1 h2 hsz
              rw [szI_of h1] at hsz
              have ht : t = plA (fL (g 16)) (fM (g 16)) (fE (g 16)) (fP (g 16)) := (nI_eq (by omega) (by unfold plA; omega)).mp hsz
              rw [plA] at ht
              refine ex_eqL [some (.ref h), some (.int (nI t)), some (.int (bI (rall (imP (g 16)) 0))), none, none, none] (by rw [h12]; rfl) ?_
              refine ex_k d_TM_isFile_265 ?_
              refine ex_is d_TM_isFile_266 (Nat.le_of_ble_eq_true rfl) ?_
              have L1 : ∀ j, j ≤ fM (g 16) → Ex G Γ mu_TM_isFile 267 [some (.ref h), some (.int (nI t)), some (.int (bI (rall (imP (g 16)) j))), some (.int (nI j)), none, none] [] [TW G h q (hdF f (g 16)) g] 0 0 := by
                refine eg_down (fM (g 16)) (fun j hj ih => ?_)
                refine ex_il d_TM_isFile_267 rfl ?_
                refine ex_al d_TM_isFile_268 rfl ?_
                refine tg 0 fl_TM_99 d_TM_isFile_269 rfl rfl ?_
                refine ex_icmp_ge d_TM_isFile_272 (fun h272 => ?_) (fun h272 => ?_)
                · skip
                  have h272 := le_n (a := fM (g 16)) h272 eM
                  have hjn : j = fM (g 16) := by omega
                  refine ex_eqL [some (.ref h), some (.int (nI t)), some (.int (bI (rall (imP (g 16)) (fM (g 16)) && rall (exP (g 16)) 0))), some (.int (nI j)), none, none] (by rw [hjn]; simp [rall_0]) ?_
                  refine ex_k d_TM_isFile_306 ?_
                  refine ex_is d_TM_isFile_307 (Nat.le_of_ble_eq_true rfl) ?_
                  have L2 : ∀ j, j ≤ fE (g 16) → Ex G Γ mu_TM_isFile 308 [some (.ref h), some (.int (nI t)), some (.int (bI (rall (imP (g 16)) (fM (g 16)) && rall (exP (g 16)) j))), some (.int (nI j)), none, none] [] [TW G h q (hdF f (g 16)) g] 0 0 := by
                    refine eg_down (fE (g 16)) (fun j hj ih => ?_)
                    refine ex_il d_TM_isFile_308 rfl ?_
                    refine ex_al d_TM_isFile_309 rfl ?_
                    refine tg 0 fl_TM_105 d_TM_isFile_310 rfl rfl ?_
                    refine ex_icmp_ge d_TM_isFile_313 (fun h313 => ?_) (fun h313 => ?_)
                    · skip
                      have h313 := le_n (a := fE (g 16)) h313 eE
                      have hjn : j = fE (g 16) := by omega
                      refine ex_eqL [some (.ref h), some (.int (nI t)), some (.int (bI (rall (imP (g 16)) (fM (g 16)) && rall (exP (g 16)) (fE (g 16)) && rall (plP (g 16)) 0))), some (.int (nI j)), none, none] (by rw [hjn]; simp [rall_0]) ?_
                      refine ex_k d_TM_isFile_414 ?_
                      refine ex_is d_TM_isFile_415 (Nat.le_of_ble_eq_true rfl) ?_
                      have L4 : ∀ j, j ≤ fP (g 16) → Ex G Γ mu_TM_isFile 416 [some (.ref h), some (.int (nI t)), some (.int (bI (rall (imP (g 16)) (fM (g 16)) && rall (exP (g 16)) (fE (g 16)) && rall (plP (g 16)) j))), some (.int (nI j)), none, none] [] [TW G h q (hdF f (g 16)) g] 0 0 := by
                        refine eg_down (fP (g 16)) (fun j hj ih => ?_)
                        refine ex_il d_TM_isFile_416 rfl ?_
                        refine ex_al d_TM_isFile_417 rfl ?_
                        refine tg 0 fl_TM_115 d_TM_isFile_418 rfl rfl ?_
                        refine ex_icmp_ge d_TM_isFile_421 (fun h421 => ?_) (fun h421 => ?_)
                        · skip
                          have h421 := le_n (a := fP (g 16)) h421 eP
                          have hjn : j = fP (g 16) := by omega
                          subst hjn
                          refine ex_il d_TM_isFile_510 rfl ?_
                          exact ex_iret [TW G h q (hdF f (g 16)) g] hG d_TM_isFile_511 rfl (bI_n _) (by decide) (by decide) (eg_sub.of rfl) ⟨by rw [hfe], by rw [hF]⟩
                        · skip
                          have hlt := lt_n (a := fP (g 16)) h421 eP
                          have hA : (plA (fL (g 16)) (fM (g 16)) (fE (g 16)) j) = 32 + fL (g 16) + 8 * fM (g 16) + 12 * fE (g 16) + 16 * j := rfl
                          obtain ⟨zz, hzz⟩ : ∃ zz, (rall (imP (g 16)) (fM (g 16)) && rall (exP (g 16)) (fE (g 16)) && rall (plP (g 16)) j) = zz := ⟨_, rfl⟩
                          have ih3 := ih hlt
                          rw [show (rall (imP (g 16)) (fM (g 16)) && rall (exP (g 16)) (fE (g 16)) && rall (plP (g 16)) (j + 1)) = (zz && plP (g 16) j) by rw [← hzz, rall_s (plP (g 16)) j]; simp only [Bool.and_assoc]] at ih3
                          rw [hzz]
                          refine ex_al d_TM_isFile_424 rfl ?_
                          refine ex_il d_TM_isFile_425 rfl ?_
                          refine ex_cF [0] hR (c_TM_placeAt l G h q (hdF f (g 16)) g (nI j)) (eg_invV 0 d_TM_isFile_426 cd_TM_placeAt cx_TM_130 rfl rfl List.mem_cons_self rfl rfl) cd_TM_placeAt rfl rfl (Nat.le_of_ble_eq_true rfl) (by decide) (by decide) (by decide) (by decide) rfl ?_
                          refine ex_eqT [.int (nI (plA (fL (g 16)) (fM (g 16)) (fE (g 16)) j))] (by rw [plA_I (show hdF f (g 16) 26 = nI (fL (g 16)) from eL) (show hdF f (g 16) 23 = nI (fM (g 16)) from eM) (show hdF f (g 16) 24 = nI (fE (g 16)) from eE)]) ?_
                          refine ex_is d_TM_isFile_429 (Nat.le_of_ble_eq_true rfl) ?_
                          refine ex_al d_TM_isFile_431 rfl ?_
                          refine ex_il d_TM_isFile_432 rfl ?_
                          refine ex_k d_TM_isFile_434 ?_
                          refine ex_iadd d_TM_isFile_436 ?_
                          refine ex_eqT [.int (nI ((plA (fL (g 16)) (fM (g 16)) (fE (g 16)) j) + 8)), .ref h] (by show [Value.int (nI _ + nI 8), _] = _; rw [nI_add]) ?_
                          refine ex_cF [0] hR (c_TM_tapeWord l G h q (hdF f (g 16)) g ((plA (fL (g 16)) (fM (g 16)) (fE (g 16)) j) + 8) (by omega)) (eg_invV 0 d_TM_isFile_437 cd_TM_tapeWord cx_TM_111 rfl rfl List.mem_cons_self rfl rfl) cd_TM_tapeWord rfl rfl (Nat.le_of_ble_eq_true rfl) (by decide) (by decide) (by decide) (by decide) rfl ?_
                          refine ex_is d_TM_isFile_440 (Nat.le_of_ble_eq_true rfl) ?_
                          have JD : ∀ z : Int32, z = bI (zz && plP (g 16) j) → Ex G Γ mu_TM_isFile 503 [some (.ref h), some (.int (nI t)), some (.int (bI zz)), some (.int (nI j)), some (.int (nI (plA (fL (g 16)) (fM (g 16)) (fE (g 16)) j))), some (.int (wdA (g 16) ((plA (fL (g 16)) (fM (g 16)) (fE (g 16)) j) + 8)))] [.int z] [TW G h q (hdF f (g 16)) g] 0 0 := by
                            intro z hz
                            subst hz
                            refine ex_is d_TM_isFile_503 (Nat.le_of_ble_eq_true rfl) ?_
                            refine ex_inc d_TM_isFile_504 rfl ?_
                            refine ex_goto d_TM_isFile_507 ?_
                            refine ex_forget [true, true, true, true, false, false] ?_
                            exact ih3
                          refine ex_il d_TM_isFile_442 rfl ?_
                          refine ex_if_eq d_TM_isFile_443 (fun h443 => ?_) (fun h443 => ?_)
                          · skip
                            refine ex_k d_TM_isFile_502 ?_
                            exact JD _ (by rw [plP]; clear JD ih ih3 hzz hG hR; grind [bI])
                          · skip
                            refine ex_al d_TM_isFile_446 rfl ?_
                            refine ex_il d_TM_isFile_447 rfl ?_
                            refine ex_cF [0] hR (c_TM_tapeWord l G h q (hdF f (g 16)) g (plA (fL (g 16)) (fM (g 16)) (fE (g 16)) j) (by omega)) (eg_invV 0 d_TM_isFile_449 cd_TM_tapeWord cx_TM_111 rfl rfl List.mem_cons_self rfl rfl) cd_TM_tapeWord rfl rfl (Nat.le_of_ble_eq_true rfl) (by decide) (by decide) (by decide) (by decide) rfl ?_
                            refine ex_if_lt d_TM_isFile_452 (fun h452 => ?_) (fun h452 => ?_)
                            · skip
                              refine ex_k d_TM_isFile_502 ?_
                              exact JD _ (by rw [plP]; clear JD ih ih3 hzz hG hR; grind [bI])
                            · skip
                              refine ex_al d_TM_isFile_455 rfl ?_
                              refine ex_il d_TM_isFile_456 rfl ?_
                              refine ex_cF [0] hR (c_TM_tapeWord l G h q (hdF f (g 16)) g (plA (fL (g 16)) (fM (g 16)) (fE (g 16)) j) (by omega)) (eg_invV 0 d_TM_isFile_458 cd_TM_tapeWord cx_TM_111 rfl rfl List.mem_cons_self rfl rfl) cd_TM_tapeWord rfl rfl (Nat.le_of_ble_eq_true rfl) (by decide) (by decide) (by decide) (by decide) rfl ?_
                              refine ex_k d_TM_isFile_461 ?_
                              refine ex_icmp_gt d_TM_isFile_462 (fun h462 => ?_) (fun h462 => ?_)
                              · skip
                                refine ex_k d_TM_isFile_502 ?_
                                exact JD _ (by rw [plP]; clear JD ih ih3 hzz hG hR; grind [bI])
                              · skip
                                refine ex_al d_TM_isFile_465 rfl ?_
                                refine ex_il d_TM_isFile_466 rfl ?_
                                refine ex_k d_TM_isFile_468 ?_
                                refine ex_iadd d_TM_isFile_469 ?_
                                refine ex_eqT [.int (nI ((plA (fL (g 16)) (fM (g 16)) (fE (g 16)) j) + 4)), .ref h] (by show [Value.int (nI _ + nI 4), _] = _; rw [nI_add]) ?_
                                refine ex_cF [0] hR (c_TM_tapeWord l G h q (hdF f (g 16)) g ((plA (fL (g 16)) (fM (g 16)) (fE (g 16)) j) + 4) (by omega)) (eg_invV 0 d_TM_isFile_470 cd_TM_tapeWord cx_TM_111 rfl rfl List.mem_cons_self rfl rfl) cd_TM_tapeWord rfl rfl (Nat.le_of_ble_eq_true rfl) (by decide) (by decide) (by decide) (by decide) rfl ?_
                                refine ex_al d_TM_isFile_473 rfl ?_
                                refine tg 0 fl_TM_96 d_TM_isFile_474 rfl rfl ?_
                                refine ex_cP hR (c_TM_isOffset l G _ _) (eg_invS d_TM_isFile_477 cd_TM_isOffset cx_TM_127 rfl rfl) cd_TM_isOffset (Nat.le_of_ble_eq_true rfl) (by decide) (by decide) (by decide) (by decide) rfl ?_
                                refine ex_if_eq d_TM_isFile_480 (fun h480 => ?_) (fun h480 => ?_)
                                · skip
                                  refine ex_k d_TM_isFile_502 ?_
                                  exact JD _ (by rw [plP]; clear JD ih ih3 hzz hG hR; grind [bI])
                                · skip
                                  refine ex_il d_TM_isFile_483 rfl ?_
                                  refine ex_k d_TM_isFile_485 ?_
                                  refine ex_icmp_lt d_TM_isFile_486 (fun h486 => ?_) (fun h486 => ?_)
                                  · skip
                                    refine ex_k d_TM_isFile_502 ?_
                                    exact JD _ (by rw [plP]; clear JD ih ih3 hzz hG hR; grind [bI])
                                  · skip
                                    refine ex_il d_TM_isFile_489 rfl ?_
                                    refine ex_al d_TM_isFile_491 rfl ?_
                                    refine tg 0 fl_TM_99 d_TM_isFile_492 rfl rfl ?_
                                    refine ex_icmp_ge d_TM_isFile_495 (fun h495 => ?_) (fun h495 => ?_)
                                    · skip
                                      refine ex_k d_TM_isFile_502 ?_
                                      exact JD _ (by rw [plP]; clear JD ih ih3 hzz hG hR; grind [bI])
                                    · skip
                                      refine ex_k d_TM_isFile_498 ?_
                                      refine ex_goto d_TM_isFile_499 ?_
                                      exact JD _ (by rw [plP]; clear JD ih ih3 hzz hG hR; grind [bI])
                      refine ex_forget [true, true, true, true, false, false] ?_
                      exact L4 0 (Nat.zero_le _)
                    · skip
                      have hlt := lt_n (a := fE (g 16)) h313 eE
                      have hA : (exA (fL (g 16)) (fM (g 16)) j) = 32 + fL (g 16) + 8 * fM (g 16) + 12 * j := rfl
                      refine ex_al d_TM_isFile_316 rfl ?_
                      refine ex_il d_TM_isFile_317 rfl ?_
                      refine ex_cF [0] hR (c_TM_exportAt l G h q (hdF f (g 16)) g (nI j)) (eg_invV 0 d_TM_isFile_318 cd_TM_exportAt cx_TM_108 rfl rfl List.mem_cons_self rfl rfl) cd_TM_exportAt rfl rfl (Nat.le_of_ble_eq_true rfl) (by decide) (by decide) (by decide) (by decide) rfl ?_
                      refine ex_eqT [.int (nI (exA (fL (g 16)) (fM (g 16)) j))] (by rw [exA_I (show hdF f (g 16) 26 = nI (fL (g 16)) from eL) (show hdF f (g 16) 23 = nI (fM (g 16)) from eM)]) ?_
                      refine ex_is d_TM_isFile_321 (Nat.le_of_ble_eq_true rfl) ?_
                      have JB : ∀ z : Int32, z = bI ((rall (imP (g 16)) (fM (g 16)) && rall (exP (g 16)) j) && nmB (wdA (g 16) (exA (fL (g 16)) (fM (g 16)) j)) && isWd (wdA (g 16) (exA (fL (g 16)) (fM (g 16)) j + 8)) (wdA (g 16) 4)) → Ex G Γ mu_TM_isFile 363 [some (.ref h), some (.int (nI t)), some (.int (bI (rall (imP (g 16)) (fM (g 16)) && rall (exP (g 16)) j))), some (.int (nI j)), some (.int (nI (exA (fL (g 16)) (fM (g 16)) j))), none] [.int z] [TW G h q (hdF f (g 16)) g] 0 0 := by
                        intro z hz
                        subst hz
                        refine ex_is d_TM_isFile_363 (Nat.le_of_ble_eq_true rfl) ?_
                        refine ex_k d_TM_isFile_364 ?_
                        refine ex_is d_TM_isFile_365 (Nat.le_of_ble_eq_true rfl) ?_
                        refine ex_eqL [some (.ref h), some (.int (nI t)), some (.int (bI (((rall (imP (g 16)) (fM (g 16)) && rall (exP (g 16)) j) && nmB (wdA (g 16) (exA (fL (g 16)) (fM (g 16)) j)) && isWd (wdA (g 16) (exA (fL (g 16)) (fM (g 16)) j + 8)) (wdA (g 16) 4)) && rall (exQ (g 16) j) 0))), some (.int (nI j)), some (.int (nI (exA (fL (g 16)) (fM (g 16)) j))), some (.int (nI 0))] (by simp [rall_0]; rfl) ?_
                        have L3 : ∀ i, i ≤ j → Ex G Γ mu_TM_isFile 367 [some (.ref h), some (.int (nI t)), some (.int (bI (((rall (imP (g 16)) (fM (g 16)) && rall (exP (g 16)) j) && nmB (wdA (g 16) (exA (fL (g 16)) (fM (g 16)) j)) && isWd (wdA (g 16) (exA (fL (g 16)) (fM (g 16)) j + 8)) (wdA (g 16) 4)) && rall (exQ (g 16) j) i))), some (.int (nI j)), some (.int (nI (exA (fL (g 16)) (fM (g 16)) j))), some (.int (nI i))] [] [TW G h q (hdF f (g 16)) g] 0 0 := by
                          refine eg_down j (fun i hi ih2 => ?_)
                          refine ex_il d_TM_isFile_367 rfl ?_
                          refine ex_il d_TM_isFile_369 rfl ?_
                          refine ex_icmp_ge d_TM_isFile_370 (fun h370 => ?_) (fun h370 => ?_)
                          · skip
                            have h370 := le_n (a := j) h370
                            have hij : i = j := by omega
                            refine ex_eqL [some (.ref h), some (.int (nI t)), some (.int (bI (rall (imP (g 16)) (fM (g 16)) && rall (exP (g 16)) (j + 1)))), some (.int (nI j)), some (.int (nI (exA (fL (g 16)) (fM (g 16)) j))), some (.int (nI i))] (by rw [hij, rall_s (exP (g 16)) j, exP]; simp only [Bool.and_assoc]) ?_
                            refine ex_inc d_TM_isFile_408 rfl ?_
                            refine ex_goto d_TM_isFile_411 ?_
                            refine ex_forget [true, true, true, true, false, false] ?_
                            exact ih hlt
                          · skip
                            have hlt2 := lt_n (a := j) h370
                            have hA2 : exA (fL (g 16)) (fM (g 16)) i = 32 + fL (g 16) + 8 * fM (g 16) + 12 * i := rfl
                            obtain ⟨yy, hyy⟩ : ∃ yy, ((rall (imP (g 16)) (fM (g 16)) && rall (exP (g 16)) j) && nmB (wdA (g 16) (exA (fL (g 16)) (fM (g 16)) j)) && isWd (wdA (g 16) (exA (fL (g 16)) (fM (g 16)) j + 8)) (wdA (g 16) 4)) = yy := ⟨_, rfl⟩
                            rw [hyy] at ih2 ⊢
                            have JC : ∀ z : Int32, z = bI (yy && rall (exQ (g 16) j) (i + 1)) → Ex G Γ mu_TM_isFile 401 [some (.ref h), some (.int (nI t)), some (.int (bI (yy && rall (exQ (g 16) j) i))), some (.int (nI j)), some (.int (nI (exA (fL (g 16)) (fM (g 16)) j))), some (.int (nI i))] [.int z] [TW G h q (hdF f (g 16)) g] 0 0 := by
                              intro z hz
                              subst hz
                              refine ex_is d_TM_isFile_401 (Nat.le_of_ble_eq_true rfl) ?_
                              refine ex_inc d_TM_isFile_402 rfl ?_
                              refine ex_goto d_TM_isFile_405 ?_
                              exact ih2 hlt2
                            refine ex_il d_TM_isFile_373 rfl ?_
                            refine ex_if_eq d_TM_isFile_374 (fun h374 => ?_) (fun h374 => ?_)
                            · skip
                              have h374 := bI_0.mp h374
                              refine ex_k d_TM_isFile_400 ?_
                              exact JC _ (by rw [rall_s, exQ]; clear JC ih ih2 hyy hG hR; grind [bI])
                            · skip
                              have h374 : (yy && rall (exQ (g 16) j) i) = true := by cases hb : (yy && rall (exQ (g 16) j) i); exact absurd (bI_0.mpr hb) h374; rfl
                              refine ex_al d_TM_isFile_377 rfl ?_
                              refine ex_al d_TM_isFile_378 rfl ?_
                              refine ex_il d_TM_isFile_379 rfl ?_
                              refine ex_cF [0] hR (c_TM_exportAt l G h q (hdF f (g 16)) g (nI i)) (eg_invV 0 d_TM_isFile_381 cd_TM_exportAt cx_TM_108 rfl rfl List.mem_cons_self rfl rfl) cd_TM_exportAt rfl rfl (Nat.le_of_ble_eq_true rfl) (by decide) (by decide) (by decide) (by decide) rfl ?_
                              refine ex_eqT [.int (nI (exA (fL (g 16)) (fM (g 16)) i)), .ref h] (by rw [exA_I (show hdF f (g 16) 26 = nI (fL (g 16)) from eL) (show hdF f (g 16) 23 = nI (fM (g 16)) from eM)]) ?_
                              refine ex_cF [0] hR (c_TM_tapeWord l G h q (hdF f (g 16)) g (exA (fL (g 16)) (fM (g 16)) i) (by omega)) (eg_invV 0 d_TM_isFile_384 cd_TM_tapeWord cx_TM_111 rfl rfl List.mem_cons_self rfl rfl) cd_TM_tapeWord rfl rfl (Nat.le_of_ble_eq_true rfl) (by decide) (by decide) (by decide) (by decide) rfl ?_
                              refine ex_al d_TM_isFile_387 rfl ?_
                              refine ex_il d_TM_isFile_388 rfl ?_
                              refine ex_cF [0] hR (c_TM_tapeWord l G h q (hdF f (g 16)) g (exA (fL (g 16)) (fM (g 16)) j) (by omega)) (eg_invV 0 d_TM_isFile_390 cd_TM_tapeWord cx_TM_111 rfl rfl List.mem_cons_self rfl rfl) cd_TM_tapeWord rfl rfl (Nat.le_of_ble_eq_true rfl) (by decide) (by decide) (by decide) (by decide) rfl ?_
                              refine ex_icmp_eq d_TM_isFile_393 (fun h393 => ?_) (fun h393 => ?_)
                              · skip
                                refine ex_k d_TM_isFile_400 ?_
                                exact JC _ (by rw [rall_s, exQ]; clear JC ih ih2 hyy hG hR; grind [bI])
                              · skip
                                refine ex_k d_TM_isFile_396 ?_
                                refine ex_goto d_TM_isFile_397 ?_
                                exact JC _ (by rw [rall_s, exQ]; clear JC ih ih2 hyy hG hR; grind [bI])
                        exact L3 0 (Nat.zero_le _)
                      refine ex_il d_TM_isFile_323 rfl ?_
                      refine ex_if_eq d_TM_isFile_324 (fun h324 => ?_) (fun h324 => ?_)
                      · skip
                        have h324 := bI_0.mp h324
                        refine ex_k d_TM_isFile_362 ?_
                        exact JB _ (by clear JB ih hG hR; grind [bI])
                      · skip
                        have h324 : (rall (imP (g 16)) (fM (g 16)) && rall (exP (g 16)) j) = true := by cases hb : (rall (imP (g 16)) (fM (g 16)) && rall (exP (g 16)) j); exact absurd (bI_0.mpr hb) h324; rfl
                        refine ex_al d_TM_isFile_327 rfl ?_
                        refine ex_il d_TM_isFile_328 rfl ?_
                        refine ex_cF [0] hR (c_TM_tapeWord l G h q (hdF f (g 16)) g (exA (fL (g 16)) (fM (g 16)) j) (by omega)) (eg_invV 0 d_TM_isFile_330 cd_TM_tapeWord cx_TM_111 rfl rfl List.mem_cons_self rfl rfl) cd_TM_tapeWord rfl rfl (Nat.le_of_ble_eq_true rfl) (by decide) (by decide) (by decide) (by decide) rfl ?_
                        refine ex_cP hR (c_TM_isName l G _) (eg_invS d_TM_isFile_333 cd_TM_isName cx_TM_83 rfl rfl) cd_TM_isName (Nat.le_of_ble_eq_true rfl) (by decide) (by decide) (by decide) (by decide) rfl ?_
                        refine ex_if_eq d_TM_isFile_336 (fun h336 => ?_) (fun h336 => ?_)
                        · skip
                          refine ex_k d_TM_isFile_362 ?_
                          exact JB _ (by clear JB ih hG hR; grind [bI])
                        · skip
                          refine ex_al d_TM_isFile_339 rfl ?_
                          refine ex_il d_TM_isFile_340 rfl ?_
                          refine ex_k d_TM_isFile_342 ?_
                          refine ex_iadd d_TM_isFile_344 ?_
                          refine ex_eqT [.int (nI ((exA (fL (g 16)) (fM (g 16)) j) + 8)), .ref h] (by show [Value.int (nI _ + nI 8), _] = _; rw [nI_add]) ?_
                          refine ex_cF [0] hR (c_TM_tapeWord l G h q (hdF f (g 16)) g ((exA (fL (g 16)) (fM (g 16)) j) + 8) (by omega)) (eg_invV 0 d_TM_isFile_345 cd_TM_tapeWord cx_TM_111 rfl rfl List.mem_cons_self rfl rfl) cd_TM_tapeWord rfl rfl (Nat.le_of_ble_eq_true rfl) (by decide) (by decide) (by decide) (by decide) rfl ?_
                          refine ex_al d_TM_isFile_348 rfl ?_
                          refine tg 0 fl_TM_96 d_TM_isFile_349 rfl rfl ?_
                          refine ex_cP hR (c_TM_isOffset l G _ _) (eg_invS d_TM_isFile_352 cd_TM_isOffset cx_TM_127 rfl rfl) cd_TM_isOffset (Nat.le_of_ble_eq_true rfl) (by decide) (by decide) (by decide) (by decide) rfl ?_
                          refine ex_if_eq d_TM_isFile_355 (fun h355 => ?_) (fun h355 => ?_)
                          · skip
                            refine ex_k d_TM_isFile_362 ?_
                            exact JB _ (by clear JB ih hG hR; grind [bI])
                          · skip
                            refine ex_k d_TM_isFile_358 ?_
                            refine ex_goto d_TM_isFile_359 ?_
                            exact JB _ (by clear JB ih hG hR; grind [bI])
                  exact L2 0 (Nat.zero_le _)
                · skip
                  have hlt := lt_n (a := fM (g 16)) h272 eM
                  have hA : imA (fL (g 16)) j = 32 + fL (g 16) + 8 * j := rfl
                  have JA : ∀ z : Int32, z = bI (rall (imP (g 16)) (j + 1)) → Ex G Γ mu_TM_isFile 299 [some (.ref h), some (.int (nI t)), some (.int (bI (rall (imP (g 16)) j))), some (.int (nI j)), none, none] [.int z] [TW G h q (hdF f (g 16)) g] 0 0 := by
                    intro z hz
                    subst hz
                    refine ex_is d_TM_isFile_299 (Nat.le_of_ble_eq_true rfl) ?_
                    refine ex_inc d_TM_isFile_300 rfl ?_
                    refine ex_goto d_TM_isFile_303 ?_
                    exact ih hlt
                  refine ex_il d_TM_isFile_275 rfl ?_
                  refine ex_if_eq d_TM_isFile_276 (fun h276 => ?_) (fun h276 => ?_)
                  · skip
                    have h276 := bI_0.mp h276
                    refine ex_k d_TM_isFile_298 ?_
                    exact JA _ (by rw [rall_s, imP]; clear JA ih hG hR; grind [bI])
                  · skip
                    have h276 : rall (imP (g 16)) j = true := by cases hb : rall (imP (g 16)) j; exact absurd (bI_0.mpr hb) h276; rfl
                    refine ex_al d_TM_isFile_279 rfl ?_
                    refine ex_al d_TM_isFile_280 rfl ?_
                    refine ex_il d_TM_isFile_281 rfl ?_
                    refine ex_cF [0] hR (c_TM_importAt l G h q (hdF f (g 16)) g (nI j)) (eg_invV 0 d_TM_isFile_282 cd_TM_importAt cx_TM_102 rfl rfl List.mem_cons_self rfl rfl) cd_TM_importAt rfl rfl (Nat.le_of_ble_eq_true rfl) (by decide) (by decide) (by decide) (by decide) rfl ?_
                    refine ex_eqT [.int (nI (imA (fL (g 16)) j)), .ref h] (by rw [imA_I (show hdF f (g 16) 26 = nI (fL (g 16)) from eL)]) ?_
                    refine ex_cF [0] hR (c_TM_tapeWord l G h q (hdF f (g 16)) g (imA (fL (g 16)) j) (by omega)) (eg_invV 0 d_TM_isFile_285 cd_TM_tapeWord cx_TM_111 rfl rfl List.mem_cons_self rfl rfl) cd_TM_tapeWord rfl rfl (Nat.le_of_ble_eq_true rfl) (by decide) (by decide) (by decide) (by decide) rfl ?_
                    refine ex_cP hR (c_TM_isName l G _) (eg_invS d_TM_isFile_288 cd_TM_isName cx_TM_83 rfl rfl) cd_TM_isName (Nat.le_of_ble_eq_true rfl) (by decide) (by decide) (by decide) (by decide) rfl ?_
                    refine ex_if_eq d_TM_isFile_291 (fun h291 => ?_) (fun h291 => ?_)
                    · skip
                      refine ex_k d_TM_isFile_298 ?_
                      exact JA _ (by rw [rall_s, imP]; clear JA ih hG hR; grind [bI])
                    · skip
                      refine ex_k d_TM_isFile_294 ?_
                      refine ex_goto d_TM_isFile_295 ?_
                      exact JA _ (by rw [rall_s, imP]; clear JA ih hG hR; grind [bI])
              exact L1 0 (Nat.zero_le _)
            · skip
              exact hbad (by rw [filB, decide_eq_false (p := nI t = szI (g 16)) h260]; simp) _
        refine ex_il d_TM_isFile_168 rfl ?_
        refine ex_if_eq d_TM_isFile_169 (fun h169 => ?_) (fun h169 => ?_)
        · skip
          have h169 := bI_0.mp h169
          refine ex_k d_TM_isFile_245 ?_
          exact J2 _ (by clear J2 hbad hG hR; grind [h2B, bI])
        · skip
          have h169 : h1B (g 16) = true := by cases hb : h1B (g 16); exact absurd (bI_0.mpr hb) h169; rfl
          refine ex_al d_TM_isFile_172 rfl ?_
          refine tg 0 fl_TM_118 d_TM_isFile_173 rfl rfl ?_
          refine ex_k d_TM_isFile_176 ?_
          refine ex_icmp_eq d_TM_isFile_177 (fun h177 => ?_) (fun h177 => ?_)
          · skip
            refine ex_al d_TM_isFile_194 rfl ?_
            refine tg 0 fl_TM_121 d_TM_isFile_195 rfl rfl ?_
            refine ex_k d_TM_isFile_198 ?_
            refine ex_icmp_eq d_TM_isFile_199 (fun h199 => ?_) (fun h199 => ?_)
            · skip
              refine ex_al d_TM_isFile_216 rfl ?_
              refine tg 0 fl_TM_124 d_TM_isFile_217 rfl rfl ?_
              refine ex_al d_TM_isFile_220 rfl ?_
              refine tg 0 fl_TM_96 d_TM_isFile_221 rfl rfl ?_
              refine ex_icmp_eq d_TM_isFile_224 (fun h224 => ?_) (fun h224 => ?_)
              · skip
                refine ex_k d_TM_isFile_241 ?_
                refine ex_goto d_TM_isFile_242 ?_
                exact J2 _ (by clear J2 hbad hG hR; grind [h2B, bI])
              · skip
                refine ex_al d_TM_isFile_227 rfl ?_
                refine tg 0 fl_TM_124 d_TM_isFile_228 rfl rfl ?_
                refine ex_al d_TM_isFile_231 rfl ?_
                refine tg 0 fl_TM_96 d_TM_isFile_232 rfl rfl ?_
                refine ex_cP hR (c_TM_isOffset l G _ _) (eg_invS d_TM_isFile_235 cd_TM_isOffset cx_TM_127 rfl rfl) cd_TM_isOffset (Nat.le_of_ble_eq_true rfl) (by decide) (by decide) (by decide) (by decide) rfl ?_
                refine ex_if_eq d_TM_isFile_238 (fun h238 => ?_) (fun h238 => ?_)
                · skip
                  refine ex_k d_TM_isFile_245 ?_
                  exact J2 _ (by clear J2 hbad hG hR; grind [h2B, bI])
                · skip
                  refine ex_k d_TM_isFile_241 ?_
                  refine ex_goto d_TM_isFile_242 ?_
                  exact J2 _ (by clear J2 hbad hG hR; grind [h2B, bI])
            · skip
              refine ex_al d_TM_isFile_202 rfl ?_
              refine tg 0 fl_TM_121 d_TM_isFile_203 rfl rfl ?_
              refine ex_al d_TM_isFile_206 rfl ?_
              refine tg 0 fl_TM_96 d_TM_isFile_207 rfl rfl ?_
              refine ex_cP hR (c_TM_isOffset l G _ _) (eg_invS d_TM_isFile_210 cd_TM_isOffset cx_TM_127 rfl rfl) cd_TM_isOffset (Nat.le_of_ble_eq_true rfl) (by decide) (by decide) (by decide) (by decide) rfl ?_
              refine ex_if_eq d_TM_isFile_213 (fun h213 => ?_) (fun h213 => ?_)
              · skip
                refine ex_k d_TM_isFile_245 ?_
                exact J2 _ (by clear J2 hbad hG hR; grind [h2B, bI])
              · skip
                refine ex_al d_TM_isFile_216 rfl ?_
                refine tg 0 fl_TM_124 d_TM_isFile_217 rfl rfl ?_
                refine ex_al d_TM_isFile_220 rfl ?_
                refine tg 0 fl_TM_96 d_TM_isFile_221 rfl rfl ?_
                refine ex_icmp_eq d_TM_isFile_224 (fun h224 => ?_) (fun h224 => ?_)
                · skip
                  refine ex_k d_TM_isFile_241 ?_
                  refine ex_goto d_TM_isFile_242 ?_
                  exact J2 _ (by clear J2 hbad hG hR; grind [h2B, bI])
                · skip
                  refine ex_al d_TM_isFile_227 rfl ?_
                  refine tg 0 fl_TM_124 d_TM_isFile_228 rfl rfl ?_
                  refine ex_al d_TM_isFile_231 rfl ?_
                  refine tg 0 fl_TM_96 d_TM_isFile_232 rfl rfl ?_
                  refine ex_cP hR (c_TM_isOffset l G _ _) (eg_invS d_TM_isFile_235 cd_TM_isOffset cx_TM_127 rfl rfl) cd_TM_isOffset (Nat.le_of_ble_eq_true rfl) (by decide) (by decide) (by decide) (by decide) rfl ?_
                  refine ex_if_eq d_TM_isFile_238 (fun h238 => ?_) (fun h238 => ?_)
                  · skip
                    refine ex_k d_TM_isFile_245 ?_
                    exact J2 _ (by clear J2 hbad hG hR; grind [h2B, bI])
                  · skip
                    refine ex_k d_TM_isFile_241 ?_
                    refine ex_goto d_TM_isFile_242 ?_
                    exact J2 _ (by clear J2 hbad hG hR; grind [h2B, bI])
          · skip
            refine ex_al d_TM_isFile_180 rfl ?_
            refine tg 0 fl_TM_118 d_TM_isFile_181 rfl rfl ?_
            refine ex_al d_TM_isFile_184 rfl ?_
            refine tg 0 fl_TM_96 d_TM_isFile_185 rfl rfl ?_
            refine ex_cP hR (c_TM_isOffset l G _ _) (eg_invS d_TM_isFile_188 cd_TM_isOffset cx_TM_127 rfl rfl) cd_TM_isOffset (Nat.le_of_ble_eq_true rfl) (by decide) (by decide) (by decide) (by decide) rfl ?_
            refine ex_if_eq d_TM_isFile_191 (fun h191 => ?_) (fun h191 => ?_)
            · skip
              refine ex_k d_TM_isFile_245 ?_
              exact J2 _ (by clear J2 hbad hG hR; grind [h2B, bI])
            · skip
              refine ex_al d_TM_isFile_194 rfl ?_
              refine tg 0 fl_TM_121 d_TM_isFile_195 rfl rfl ?_
              refine ex_k d_TM_isFile_198 ?_
              refine ex_icmp_eq d_TM_isFile_199 (fun h199 => ?_) (fun h199 => ?_)
              · skip
                refine ex_al d_TM_isFile_216 rfl ?_
                refine tg 0 fl_TM_124 d_TM_isFile_217 rfl rfl ?_
                refine ex_al d_TM_isFile_220 rfl ?_
                refine tg 0 fl_TM_96 d_TM_isFile_221 rfl rfl ?_
                refine ex_icmp_eq d_TM_isFile_224 (fun h224 => ?_) (fun h224 => ?_)
                · skip
                  refine ex_k d_TM_isFile_241 ?_
                  refine ex_goto d_TM_isFile_242 ?_
                  exact J2 _ (by clear J2 hbad hG hR; grind [h2B, bI])
                · skip
                  refine ex_al d_TM_isFile_227 rfl ?_
                  refine tg 0 fl_TM_124 d_TM_isFile_228 rfl rfl ?_
                  refine ex_al d_TM_isFile_231 rfl ?_
                  refine tg 0 fl_TM_96 d_TM_isFile_232 rfl rfl ?_
                  refine ex_cP hR (c_TM_isOffset l G _ _) (eg_invS d_TM_isFile_235 cd_TM_isOffset cx_TM_127 rfl rfl) cd_TM_isOffset (Nat.le_of_ble_eq_true rfl) (by decide) (by decide) (by decide) (by decide) rfl ?_
                  refine ex_if_eq d_TM_isFile_238 (fun h238 => ?_) (fun h238 => ?_)
                  · skip
                    refine ex_k d_TM_isFile_245 ?_
                    exact J2 _ (by clear J2 hbad hG hR; grind [h2B, bI])
                  · skip
                    refine ex_k d_TM_isFile_241 ?_
                    refine ex_goto d_TM_isFile_242 ?_
                    exact J2 _ (by clear J2 hbad hG hR; grind [h2B, bI])
              · skip
                refine ex_al d_TM_isFile_202 rfl ?_
                refine tg 0 fl_TM_121 d_TM_isFile_203 rfl rfl ?_
                refine ex_al d_TM_isFile_206 rfl ?_
                refine tg 0 fl_TM_96 d_TM_isFile_207 rfl rfl ?_
                refine ex_cP hR (c_TM_isOffset l G _ _) (eg_invS d_TM_isFile_210 cd_TM_isOffset cx_TM_127 rfl rfl) cd_TM_isOffset (Nat.le_of_ble_eq_true rfl) (by decide) (by decide) (by decide) (by decide) rfl ?_
                refine ex_if_eq d_TM_isFile_213 (fun h213 => ?_) (fun h213 => ?_)
                · skip
                  refine ex_k d_TM_isFile_245 ?_
                  exact J2 _ (by clear J2 hbad hG hR; grind [h2B, bI])
                · skip
                  refine ex_al d_TM_isFile_216 rfl ?_
                  refine tg 0 fl_TM_124 d_TM_isFile_217 rfl rfl ?_
                  refine ex_al d_TM_isFile_220 rfl ?_
                  refine tg 0 fl_TM_96 d_TM_isFile_221 rfl rfl ?_
                  refine ex_icmp_eq d_TM_isFile_224 (fun h224 => ?_) (fun h224 => ?_)
                  · skip
                    refine ex_k d_TM_isFile_241 ?_
                    refine ex_goto d_TM_isFile_242 ?_
                    exact J2 _ (by clear J2 hbad hG hR; grind [h2B, bI])
                  · skip
                    refine ex_al d_TM_isFile_227 rfl ?_
                    refine tg 0 fl_TM_124 d_TM_isFile_228 rfl rfl ?_
                    refine ex_al d_TM_isFile_231 rfl ?_
                    refine tg 0 fl_TM_96 d_TM_isFile_232 rfl rfl ?_
                    refine ex_cP hR (c_TM_isOffset l G _ _) (eg_invS d_TM_isFile_235 cd_TM_isOffset cx_TM_127 rfl rfl) cd_TM_isOffset (Nat.le_of_ble_eq_true rfl) (by decide) (by decide) (by decide) (by decide) rfl ?_
                    refine ex_if_eq d_TM_isFile_238 (fun h238 => ?_) (fun h238 => ?_)
                    · skip
                      refine ex_k d_TM_isFile_245 ?_
                      exact J2 _ (by clear J2 hbad hG hR; grind [h2B, bI])
                    · skip
                      refine ex_k d_TM_isFile_241 ?_
                      refine ex_goto d_TM_isFile_242 ?_
                      exact J2 _ (by clear J2 hbad hG hR; grind [h2B, bI])
      refine ex_al d_TM_isFile_87 rfl ?_
      refine tg 0 fl_TM_96 d_TM_isFile_88 rfl rfl ?_
      refine ex_k d_TM_isFile_91 ?_
      refine ex_icmp_lt d_TM_isFile_92 (fun h92 => ?_) (fun h92 => ?_)
      · skip
        refine ex_k d_TM_isFile_166 ?_
        exact J1 _ (by clear J1 hbad hG hR; grind [h1B, bI])
      · skip
        refine ex_al d_TM_isFile_95 rfl ?_
        refine tg 0 fl_TM_96 d_TM_isFile_96 rfl rfl ?_
        refine ex_k d_TM_isFile_99 ?_
        refine ex_icmp_gt d_TM_isFile_102 (fun h102 => ?_) (fun h102 => ?_)
        · skip
          refine ex_k d_TM_isFile_166 ?_
          exact J1 _ (by clear J1 hbad hG hR; grind [h1B, bI])
        · skip
          refine ex_al d_TM_isFile_105 rfl ?_
          refine tg 0 fl_TM_96 d_TM_isFile_106 rfl rfl ?_
          refine ex_k d_TM_isFile_109 ?_
          refine ex_irem d_TM_isFile_110 (by decide) ?_
          refine ex_if_ne d_TM_isFile_111 (fun h111 => ?_) (fun h111 => ?_)
          · skip
            refine ex_k d_TM_isFile_166 ?_
            exact J1 _ (by clear J1 hbad hG hR; grind [h1B, bI])
          · skip
            refine ex_al d_TM_isFile_114 rfl ?_
            refine tg 0 fl_TM_99 d_TM_isFile_115 rfl rfl ?_
            refine ex_if_lt d_TM_isFile_118 (fun h118 => ?_) (fun h118 => ?_)
            · skip
              refine ex_k d_TM_isFile_166 ?_
              exact J1 _ (by clear J1 hbad hG hR; grind [h1B, bI])
            · skip
              refine ex_al d_TM_isFile_121 rfl ?_
              refine tg 0 fl_TM_99 d_TM_isFile_122 rfl rfl ?_
              refine ex_k d_TM_isFile_125 ?_
              refine ex_icmp_gt d_TM_isFile_127 (fun h127 => ?_) (fun h127 => ?_)
              · skip
                refine ex_k d_TM_isFile_166 ?_
                exact J1 _ (by clear J1 hbad hG hR; grind [h1B, bI])
              · skip
                refine ex_al d_TM_isFile_130 rfl ?_
                refine tg 0 fl_TM_105 d_TM_isFile_131 rfl rfl ?_
                refine ex_if_lt d_TM_isFile_134 (fun h134 => ?_) (fun h134 => ?_)
                · skip
                  refine ex_k d_TM_isFile_166 ?_
                  exact J1 _ (by clear J1 hbad hG hR; grind [h1B, bI])
                · skip
                  refine ex_al d_TM_isFile_137 rfl ?_
                  refine tg 0 fl_TM_105 d_TM_isFile_138 rfl rfl ?_
                  refine ex_k d_TM_isFile_141 ?_
                  refine ex_icmp_gt d_TM_isFile_143 (fun h143 => ?_) (fun h143 => ?_)
                  · skip
                    refine ex_k d_TM_isFile_166 ?_
                    exact J1 _ (by clear J1 hbad hG hR; grind [h1B, bI])
                  · skip
                    refine ex_al d_TM_isFile_146 rfl ?_
                    refine tg 0 fl_TM_115 d_TM_isFile_147 rfl rfl ?_
                    refine ex_if_lt d_TM_isFile_150 (fun h150 => ?_) (fun h150 => ?_)
                    · skip
                      refine ex_k d_TM_isFile_166 ?_
                      exact J1 _ (by clear J1 hbad hG hR; grind [h1B, bI])
                    · skip
                      refine ex_al d_TM_isFile_153 rfl ?_
                      refine tg 0 fl_TM_115 d_TM_isFile_154 rfl rfl ?_
                      refine ex_k d_TM_isFile_157 ?_
                      refine ex_icmp_gt d_TM_isFile_159 (fun h159 => ?_) (fun h159 => ?_)
                      · skip
                        refine ex_k d_TM_isFile_166 ?_
                        exact J1 _ (by clear J1 hbad hG hR; grind [h1B, bI])
                      · skip
                        refine ex_k d_TM_isFile_162 ?_
                        refine ex_goto d_TM_isFile_163 ?_
                        exact J1 _ (by clear J1 hbad hG hR; grind [h1B, bI])
    · skip
      exact hbad (by rw [h0B, decide_eq_false (p := wdA (g 16) 0 = 1297040469) h13, Bool.and_false])
