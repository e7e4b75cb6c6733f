/-! THE LOADER, 5: guard, seal -/
/-- guarded addresses with so many from u on set to b -/
def gdU (P : Int32 → Bool) (u : Nat) (b : Bool) : Nat → (Int32 → Bool)
  | 0 => P
  | j + 1 => fun y => if y = nI (u + j) then b else gdU P u b j y
set_option maxRecDepth 100000 in
theorem c_ML_guard (l : Launch) (G : eg_G) (x : Nat) (r : Nat → Nat) (f : Nat → Int32) (a : Nat → Nat) (M : Nat → Int32) (P : Int32 → Bool) (R : Nat → Int32) (pc tr md : Int32) (hr0 : r 0 = a 0) (u n : Nat) (b : Bool) (hb : u + n ≤ 4096) : Ct l G y_ML_guard 1 0 0 [.ref x, .int (nI u), .int (nI n), .int (bI b)] [LO x r f, MA G a M P R pc tr md] (rF none [LO x r f, MA G a M (gdU P u b n) R pc tr md]) := by
  refine Ct.of cd_ML_guard (eg_catb rfl) (Nat.le_of_ble_eq_true rfl) ?_
  intro Γ hG
  have hR := hG.rm
  show Ex G Γ mu_ML_guard 0 [some (.ref x), some (.int (nI u)), some (.int (nI n)), some (.int (bI b)), none] [] [LO x r f, MA G a M P R pc tr md] 0 0
  refine ex_il d_ML_guard_0 rfl ?_
  refine ex_is d_ML_guard_1 (Nat.le_of_ble_eq_true rfl) ?_
  have L : ∀ j, j ≤ n → Ex G Γ mu_ML_guard 3 [some (.ref x), some (.int (nI u)), some (.int (nI n)), some (.int (bI b)), some (.int (nI (u + j)))] [] [LO x r f, MA G a M (gdU P u b j) R pc tr md] 0 0 := by
    refine eg_down n (fun j hj ih => ?_)
    refine ex_il d_ML_guard_3 rfl ?_
    refine ex_il d_ML_guard_5 rfl ?_
    refine ex_il d_ML_guard_6 rfl ?_
    refine ex_iadd d_ML_guard_7 ?_
    rw [nI_add]
    refine ex_icmp_ge d_ML_guard_8 (fun h8 => ?_) (fun h8 => ?_)
    · skip
      have h8 := le_n (a := u + n) h8
      have hjn : j = n := by omega
      subst hjn
      exact ex_vret [LO x r f, MA G a M (gdU P u b j) R pc tr md] hG d_ML_guard_28 rfl (by decide) (by decide) (eg_sub.of rfl) ⟨rfl, rfl⟩
    · skip
      have hlt : j < n := by have := lt_n (a := u + n) h8; omega
      refine ex_al d_ML_guard_11 rfl ?_
      refine lg 0 fl_ML_10 d_ML_guard_12 rfl rfl ?_
      rw [hr0]
      refine mg 1 fl_ML_68 d_ML_guard_15 rfl rfl ?_
      refine ex_il d_ML_guard_18 rfl ?_
      refine ex_il d_ML_guard_20 rfl ?_
      refine ms_shut 1 d_ML_guard_21 rfl (ix_e (j := u + j) (by omega)) (by omega) ?_
      refine ex_inc d_ML_guard_22 rfl ?_
      refine ex_goto d_ML_guard_25 ?_
      exact ih hlt
  exact L 0 (Nat.zero_le _)
set_option maxRecDepth 100000 in
theorem c_ML_seal (l : Launch) (G : eg_G) (x : Nat) (r : Nat → Nat) (f : Nat → Int32) (a : Nat → Nat) (M : Nat → Int32) (P : Int32 → Bool) (R : Nat → Int32) (pc tr md : Int32) (hr0 : r 0 = a 0) (hse : f 2 = 0 ∨ f 2 = 1) : Ct l G y_ML_seal 2 0 0 [.ref x] [LO x r f, MA G a M P R pc tr md] (rF (some (.int (bI (decide (f 2 = 0))))) [LO x r (va_up f 2 1), MA G a M (if f 2 = 0 then gdU P 0 true 512 else P) R pc tr md]) := by
  refine Ct.of cd_ML_seal (eg_catb rfl) (Nat.le_of_ble_eq_true rfl) ?_
  intro Γ hG
  have hR := hG.rm
  show Ex G Γ mu_ML_seal 0 [some (.ref x)] [] [LO x r f, MA G a M P R pc tr md] 0 0
  refine ex_al d_ML_seal_0 rfl ?_
  refine lg 0 fl_ML_57 d_ML_seal_1 rfl rfl ?_
  refine ex_if_eq d_ML_seal_4 (fun h4 => ?_) (fun h4 => ?_)
  · skip
    have h4 : f 2 = 0 := h4
    refine ex_al d_ML_seal_9 rfl ?_
    refine ex_k d_ML_seal_10 ?_
    refine ex_eqT [.int (bI true), .ref x] rfl ?_
    refine lp_2 0 wl_ML_57 d_ML_seal_11 rfl ?_
    refine ex_al d_ML_seal_14 rfl ?_
    refine ex_k d_ML_seal_15 ?_
    refine ex_k d_ML_seal_16 ?_
    refine ex_k d_ML_seal_19 ?_
    refine ex_eqT [.int (bI true), .int (nI 512), .int (nI 0), .ref x] rfl ?_
    refine ex_cV [0, 1] hR (c_ML_guard l G x r (va_up f 2 1) a M P R pc tr md hr0 0 512 true (by decide)) (eg_invV 0 d_ML_seal_20 cd_ML_guard cx_ML_72 rfl rfl List.mem_cons_self rfl rfl) cd_ML_guard rfl rfl (Nat.le_of_ble_eq_true rfl) (by decide) (by decide) (by decide) (by decide) rfl ?_
    refine ex_k d_ML_seal_23 ?_
    exact ex_iret [LO x r (va_up f 2 1), MA G a M (gdU P 0 true 512) R pc tr md] hG d_ML_seal_24 rfl rfl (by decide) (by decide) (eg_sub.of rfl) ⟨by rw [decide_eq_true h4]; rfl, by rw [if_pos h4]⟩
  · skip
    have h4 : ¬ f 2 = 0 := h4
    have h41 : f 2 = 1 := hse.resolve_left h4
    refine ex_k d_ML_seal_7 ?_
    exact ex_iret [LO x r f, MA G a M P R pc tr md] hG d_ML_seal_8 rfl rfl (by decide) (by decide) (eg_sub.of rfl) ⟨by rw [decide_eq_false h4]; rfl, by rw [if_neg h4, va_up_id h41]⟩
