/-! THE LOADER, 3: looks at the machine -/
set_option maxRecDepth 100000 in
theorem c_ML_register (l : Launch) (G : eg_G) (x : Nat) (r : Nat → Nat) (f : Nat → Int32) (a : Nat → Nat) (M : Nat → Int32) (P : Int32 → Bool) (R : Nat → Int32) (pc tr md : Int32) (hr0 : r 0 = a 0) (v : Int32) : Ct l G y_ML_register 1 0 0 [.ref x, .int v] [LO x r f, MA G a M P R pc tr md] (rF (some (.int (if v < 0 ∨ 31 < v then 0 else R v.toNatClampNeg))) [LO x r f, MA G a M P R pc tr md]) := by
  refine Ct.of cd_ML_register (eg_catb rfl) (Nat.le_of_ble_eq_true rfl) ?_
  intro Γ hG
  have hR := hG.rm
  show Ex G Γ mu_ML_register 0 [some (.ref x), some (.int v)] [] [LO x r f, MA G a M P R pc tr md] 0 0
  have J : ∀ z : Int32, z = (if v < 0 ∨ 31 < v then 0 else R v.toNatClampNeg) → Ex G Γ mu_ML_register 23 [some (.ref x), some (.int v)] [.int z] [LO x r f, MA G a M P R pc tr md] 0 0 := by
    intro z hz
    subst hz
    exact ex_iret [LO x r f, MA G a M P R pc tr md] hG d_ML_register_23 rfl rfl (by decide) (by decide) (eg_sub.of rfl) ⟨rfl, rfl⟩
  refine ex_il d_ML_register_0 rfl ?_
  refine ex_if_lt d_ML_register_1 (fun h1 => ?_) (fun h1 => ?_)
  · skip
    refine ex_k d_ML_register_22 ?_
    exact J _ (by clear J hG hR; grind)
  · skip
    refine ex_il d_ML_register_4 rfl ?_
    refine ex_k d_ML_register_5 ?_
    refine ex_icmp_ge d_ML_register_7 (fun h7 => ?_) (fun h7 => ?_)
    · skip
      skip
      refine ex_k d_ML_register_22 ?_
      exact J _ (by clear J hG hR; grind)
    · skip
      have hv : ¬ (v < 0 ∨ 31 < v) := by clear J hG hR; grind
      obtain ⟨j, hj, rfl⟩ := nI_of2 (x := v) (M := 31) (n := 31) rfl (fun z => hv (Or.inl z)) (Int32.not_lt.mp (fun z => hv (Or.inr z)))
      refine ex_al d_ML_register_10 rfl ?_
      refine lg 0 fl_ML_10 d_ML_register_11 rfl rfl ?_
      rw [hr0]
      refine mg 1 fl_ML_188 d_ML_register_14 rfl rfl ?_
      refine ex_il d_ML_register_17 rfl ?_
      refine ml_reg 1 d_ML_register_18 rfl (ix_e (j := j) (by omega)) ?_
      refine ex_goto d_ML_register_19 ?_
      exact J _ (by rw [if_neg hv, nI_clamp (by omega)])
theorem isI4 (v : Int32) : (isI v 4 && decide (v - v / 4 * 4 = 0)) = true ↔ isWd v 4096 = true := by
  have key : ∀ z : v - v / 4 * 4 = 0, (isI v 4 = true ↔ (0 ≤ v ∧ v < 4096)) := by
    intro z
    constructor
    · intro h
      obtain ⟨j, hj, e, -⟩ := acI_0 (n := 4) (by decide) (by decide) (acI_s (x := v) (s := 4) (Or.inr (Or.inr rfl)) z h)
      subst e
      exact ⟨nI_pos' (by omega), nI_lt (b := 4096) hj (by decide)⟩
    · rintro ⟨h1, h2⟩
      cases hb : isI v 4
      · have e := acI_5 (x := v) (s := 4) (Or.inr (Or.inr rfl)) z hb
        rw [acI, if_pos (show v - v / nI 4 * nI 4 = 0 from z), if_neg (by rintro (y | y); exact absurd h1 (Int32.not_le.mpr y); exact absurd h2 (Int32.not_lt.mpr y))] at e
        exact absurd e (by decide)
      · rfl
  unfold isWd
  simp only [Bool.and_eq_true, decide_eq_true_eq]
  constructor
  · rintro ⟨h1, h2⟩
    exact ⟨(key h2).mp h1, h2⟩
  · rintro ⟨h1, h2⟩
    exact ⟨(key h2).mpr h1, h2⟩
set_option maxRecDepth 100000 in
theorem c_ML_peek (l : Launch) (G : eg_G) (x : Nat) (r : Nat → Nat) (f : Nat → Int32) (a : Nat → Nat) (M : Nat → Int32) (P : Int32 → Bool) (R : Nat → Int32) (pc tr md : Int32) (hr0 : r 0 = a 0) (hM : ∀ i, M i &&& 255 = M i) (v : Int32) : Ct l G y_ML_peek 7 1 6 [.ref x, .int v] [LO x r f, MA G a M P R pc tr md] (rC (isWd v 4096 = true) (some (.int (wdA M v.toNatClampNeg))) [LO x r f, MA G a M P R pc tr md] x_IOB [LO x r f, MA G a M P R pc tr md]) := by
  refine Ct.of cd_ML_peek (eg_catb rfl) (Nat.le_of_ble_eq_true rfl) ?_
  intro Γ hG
  have hR := hG.rm
  show Ex G Γ mu_ML_peek 0 [some (.ref x), some (.int v)] [] [LO x r f, MA G a M P R pc tr md] 0 0
  have J : ∀ z : Int32, z = bI (isI v 4 && decide (v - v / 4 * 4 = 0)) → Ex G Γ mu_ML_peek 19 [some (.ref x), some (.int v)] [.int z] [LO x r f, MA G a M P R pc tr md] 0 0 := by
    intro z hz
    subst hz
    refine ex_cCV [] hR (c_ML_inside l G (isI v 4 && decide (v - v / 4 * 4 = 0))) (eg_invS d_ML_peek_19 cd_ML_inside cx_ML_53 rfl rfl) cd_ML_inside rfl rfl (Nat.le_of_ble_eq_true rfl) (by decide) (by decide) (by decide) (by decide) rfl (fun hc19 => ?_) (fun hc19 => ?_)
    rotate_left
    · skip
      exact ext_leave [LO x r f, MA G a M P R pc tr md] hG (fun _ h => absurd h List.not_mem_nil) (by decide) (by decide) (eg_sub.of rfl) (Or.inr ⟨fun z => hc19 ((isI4 v).mpr z), rfl, rfl⟩)
    have hc := (isI4 v).mp hc19
    obtain ⟨j, hj, rfl, hj4⟩ := isWd_of (E := 4096) (by decide) (show isWd v (nI 4096) = true from hc)
    refine ex_eqS [LO x r f, MA G a M P R pc tr md] rfl ?_
    refine ex_al d_ML_peek_22 rfl ?_
    refine lg 0 fl_ML_10 d_ML_peek_23 rfl rfl ?_
    rw [hr0]
    refine ex_il d_ML_peek_26 rfl ?_
    refine ex_k d_ML_peek_27 ?_
    refine ex_cF [1] hR (c_Ma_read l G a M P R pc tr md hM j 4 (by decide) (by omega)) (eg_invV 1 d_ML_peek_28 cd_Ma_read cx_ML_277 rfl rfl List.mem_cons_self rfl rfl) cd_Ma_read rfl rfl (Nat.le_of_ble_eq_true rfl) (by decide) (by decide) (by decide) (by decide) rfl ?_
    exact ex_iret [LO x r f, MA G a M P R pc tr md] hG d_ML_peek_31 rfl rfl (by decide) (by decide) (eg_sub.of rfl) (Or.inl ⟨hc, by rw [rdJ_4, nI_clamp (by omega)], rfl⟩)
  refine ex_il d_ML_peek_0 rfl ?_
  refine ex_k d_ML_peek_1 ?_
  refine ex_cP hR (c_Ma_isInside l G _ _) (eg_invS d_ML_peek_2 cd_Ma_isInside cx_ML_273 rfl rfl) cd_Ma_isInside (Nat.le_of_ble_eq_true rfl) (by decide) (by decide) (by decide) (by decide) rfl ?_
  refine ex_if_eq d_ML_peek_5 (fun h5 => ?_) (fun h5 => ?_)
  · skip
    refine ex_k d_ML_peek_18 ?_
    exact J _ (by clear J hG hR; grind [bI])
  · skip
    refine ex_il d_ML_peek_8 rfl ?_
    refine ex_k d_ML_peek_9 ?_
    refine ex_irem d_ML_peek_10 (by decide) ?_
    refine ex_if_ne d_ML_peek_11 (fun h11 => ?_) (fun h11 => ?_)
    · skip
      refine ex_k d_ML_peek_18 ?_
      exact J _ (by clear J hG hR; grind [bI])
    · skip
      refine ex_k d_ML_peek_14 ?_
      refine ex_goto d_ML_peek_15 ?_
      exact J _ (by clear J hG hR; grind [bI])
set_option maxRecDepth 100000 in
theorem c_ML_isProtected (l : Launch) (G : eg_G) (x : Nat) (r : Nat → Nat) (f : Nat → Int32) (a : Nat → Nat) (M : Nat → Int32) (P : Int32 → Bool) (R : Nat → Int32) (pc tr md : Int32) (hr0 : r 0 = a 0) (hPn : ∀ y : Int32, (y < 0 ∨ 4096 ≤ y) → P y = false) (v : Int32) : Ct l G y_ML_isProtected 2 0 0 [.ref x, .int v] [LO x r f, MA G a M P R pc tr md] (rF (some (.int (bI (P v)))) [LO x r f, MA G a M P R pc tr md]) := by
  refine Ct.of cd_ML_isProtected (eg_catb rfl) (Nat.le_of_ble_eq_true rfl) ?_
  intro Γ hG
  have hR := hG.rm
  show Ex G Γ mu_ML_isProtected 0 [some (.ref x), some (.int v)] [] [LO x r f, MA G a M P R pc tr md] 0 0
  have J : ∀ z : Int32, z = bI (P v) → Ex G Γ mu_ML_isProtected 25 [some (.ref x), some (.int v)] [.int z] [LO x r f, MA G a M P R pc tr md] 0 0 := by
    intro z hz
    subst hz
    exact ex_iret [LO x r f, MA G a M P R pc tr md] hG d_ML_isProtected_25 rfl (bI_n _) (by decide) (by decide) (eg_sub.of rfl) ⟨rfl, rfl⟩
  refine ex_il d_ML_isProtected_0 rfl ?_
  refine ex_k d_ML_isProtected_1 ?_
  refine ex_cP hR (c_Ma_isInside l G _ _) (eg_invS d_ML_isProtected_2 cd_Ma_isInside cx_ML_273 rfl rfl) cd_Ma_isInside (Nat.le_of_ble_eq_true rfl) (by decide) (by decide) (by decide) (by decide) rfl ?_
  refine ex_if_eq d_ML_isProtected_5 (fun h5 => ?_) (fun h5 => ?_)
  · skip
    have h5 := bI_0.mp h5
    have hPv : P v = false := hPn v (by
      have h7 : ¬ (0 ≤ v ∧ v ≤ 4096 - 1) := fun z => by
        rw [isI, decide_eq_true z.1, decide_eq_true z.2] at h5
        cases h5
      by_cases z : v < 0
      · exact Or.inl z
      · refine Or.inr (Int32.not_lt.mp fun y => h7 ⟨Int32.not_lt.mp z, ?_⟩)
        obtain ⟨j, hj, rfl⟩ := nI_of (x := v) z
        have : j < 4096 := (nI_ltI (b := 4096) hj (by decide)).mp y
        exact nI_le (b := 4095) (by omega) (by decide))
    refine ex_k d_ML_isProtected_24 ?_
    exact J _ (by rw [hPv]; rfl)
  · skip
    have h5 : isI v 1 = true := by cases hb : isI v 1; exact absurd (bI_0.mpr hb) h5; rfl
    obtain ⟨j, hj, rfl⟩ : ∃ j, j < 4096 ∧ v = nI j := by
      simp only [isI, Bool.and_eq_true, decide_eq_true_eq] at h5
      obtain ⟨j, hj, e⟩ := nI_of2 (x := v) (M := 4095) (n := 4095) rfl (Int32.not_lt.mpr h5.1) h5.2
      exact ⟨j, by omega, e⟩
    refine ex_al d_ML_isProtected_8 rfl ?_
    refine lg 0 fl_ML_10 d_ML_isProtected_9 rfl rfl ?_
    rw [hr0]
    refine mg 1 fl_ML_68 d_ML_isProtected_12 rfl rfl ?_
    refine ex_il d_ML_isProtected_15 rfl ?_
    refine ml_shut 1 d_ML_isProtected_16 rfl (ix_e hj) hj ?_
    refine ex_if_eq d_ML_isProtected_17 (fun h17 => ?_) (fun h17 => ?_)
    · skip
      refine ex_k d_ML_isProtected_24 ?_
      exact J _ (by rw [bI_0.mp h17]; rfl)
    · skip
      refine ex_k d_ML_isProtected_20 ?_
      refine ex_goto d_ML_isProtected_21 ?_
      exact J _ (by rw [show P (nI j) = true from by cases hb : P (nI j); exact absurd (bI_0.mpr hb) h17; rfl]; rfl)
