/-! THE LOADER, 6: the tape -/
set_option maxRecDepth 100000 in
theorem c_ML_feedByte (l : Launch) (G : eg_G) (x : Nat) (r : Nat → Nat) (f : Nat → Int32) (T : Nat → Int32) (t : Nat) (ht : f 15 = nI t) (ht2 : t ≤ 1200) (w : Int32) : Ct l G y_ML_feedByte 1 0 0 [.ref x, .int w] [LO x r f, TP G (r 4) T] (rF (some (.int (if t < 1200 then nI (t + 1) else -1))) [LO x r (if t < 1200 then va_up f 15 (nI (t + 1)) else f), TP G (r 4) (if t < 1200 then upd T t (w &&& 255) else T)]) := by
  refine Ct.of cd_ML_feedByte (eg_catb rfl) (Nat.le_of_ble_eq_true rfl) ?_
  intro Γ hG
  have hR := hG.rm
  show Ex G Γ mu_ML_feedByte 0 [some (.ref x), some (.int w)] [] [LO x r f, TP G (r 4) T] 0 0
  refine ex_al d_ML_feedByte_0 rfl ?_
  refine lg 0 fl_ML_99 d_ML_feedByte_1 rfl rfl ?_
  refine ex_k d_ML_feedByte_4 ?_
  refine ex_icmp_ne d_ML_feedByte_7 (fun h7 => ?_) (fun h7 => ?_)
  · skip
    have h7 : t < 1200 := by
      have : ¬ t = 1200 := fun z => h7 (show f 15 = 1200 by rw [ht, z]; rfl)
      omega
    refine ex_al d_ML_feedByte_12 rfl ?_
    refine lg 0 fl_ML_36 d_ML_feedByte_13 rfl rfl ?_
    refine ex_al d_ML_feedByte_16 rfl ?_
    refine ex_dup d_ML_feedByte_17 rfl ?_
    refine lg 0 fl_ML_99 d_ML_feedByte_18 rfl rfl ?_
    refine ex_dup_x1 d_ML_feedByte_21 rfl rfl ?_
    refine ex_k d_ML_feedByte_22 ?_
    refine ex_iadd d_ML_feedByte_23 ?_
    refine ex_eqT [.int (nI (t + 1)), .ref x, .int (nI t), .ref (r 4)] (by rw [ht, nI_1]) ?_
    refine lp_15 0 wl_ML_99 d_ML_feedByte_24 rfl ?_
    refine ex_il d_ML_feedByte_27 rfl ?_
    refine ex_i2b d_ML_feedByte_28 ?_
    refine ex_bastp 1 0 d_ML_feedByte_29 rfl rfl (ix_e h7) ?_
    refine ex_eqS [LO x r (va_up f 15 (nI (t + 1))), TP G (r 4) (upd T t (w &&& 255))] (by rw [bt_upd]; rfl) ?_
    refine ex_al d_ML_feedByte_30 rfl ?_
    refine lg 0 fl_ML_99 d_ML_feedByte_31 rfl rfl ?_
    exact ex_iret [LO x r (va_up f 15 (nI (t + 1))), TP G (r 4) (upd T t (w &&& 255))] hG d_ML_feedByte_34 rfl rfl (by decide) (by decide) (eg_sub.of rfl) ⟨by rw [if_pos h7]; rfl, by rw [if_pos h7, if_pos h7]⟩
  · skip
    have h7 : ¬ t < 1200 := by
      have : t = 1200 := (nI_eq (by omega) (by decide)).mp (ht.symm.trans h7)
      omega
    refine ex_k d_ML_feedByte_10 ?_
    exact ex_iret [LO x r f, TP G (r 4) T] hG d_ML_feedByte_11 rfl rfl (by decide) (by decide) (eg_sub.of rfl) ⟨by rw [if_neg h7], by rw [if_neg h7, if_neg h7]⟩
set_option maxRecDepth 100000 in
theorem c_ML_feed (l : Launch) (G : eg_G) (x : Nat) (r : Nat → Nat) (f : Nat → Int32) (T : Nat → Int32) (t : Nat) (ht : f 15 = nI t) (ht2 : t ≤ 1200) (w : Int32) : Ct l G y_ML_feed 1 0 0 [.ref x, .int w] [LO x r f, TP G (r 4) T] (rF (some (.int (if t + 4 ≤ 1200 then nI (t + 4) else -1))) [LO x r (if t + 4 ≤ 1200 then va_up f 15 (nI (t + 4)) else f), TP G (r 4) (if t + 4 ≤ 1200 then putB T t w 4 else T)]) := by
  refine Ct.of cd_ML_feed (eg_catb rfl) (Nat.le_of_ble_eq_true rfl) ?_
  intro Γ hG
  have hR := hG.rm
  show Ex G Γ mu_ML_feed 0 [some (.ref x), some (.int w), none] [] [LO x r f, TP G (r 4) T] 0 0
  refine ex_al d_ML_feed_0 rfl ?_
  refine lg 0 fl_ML_99 d_ML_feed_1 rfl rfl ?_
  refine ex_k d_ML_feed_4 ?_
  refine ex_iadd d_ML_feed_5 ?_
  refine ex_k d_ML_feed_6 ?_
  refine ex_eqT [.int 1200, .int (nI (t + 4))] (by rw [ht]; show [Value.int 1200, .int (nI t + nI 4)] = _; rw [nI_add]) ?_
  refine ex_icmp_le d_ML_feed_9 (fun h9 => ?_) (fun h9 => ?_)
  · skip
    have h9 : t + 4 ≤ 1200 := (nI_leI (by omega) (by decide)).mp h9
    refine ex_k d_ML_feed_14 ?_
    refine ex_is d_ML_feed_15 (Nat.le_of_ble_eq_true rfl) ?_
    have L : ∀ j, j ≤ 4 → Ex G Γ mu_ML_feed 16 [some (.ref x), some (.int w), some (.int (nI j))] [] [LO x r (va_up f 15 (nI (t + j))), TP G (r 4) (putB T t w j)] 0 0 := by
      refine eg_down 4 (fun j hj ih => ?_)
      refine ex_il d_ML_feed_16 rfl ?_
      refine ex_k d_ML_feed_17 ?_
      refine ex_icmp_ge d_ML_feed_18 (fun h18 => ?_) (fun h18 => ?_)
      · skip
        have h18 := le_n (a := 4) h18
        have hjn : j = 4 := by omega
        subst hjn
        refine ex_al d_ML_feed_50 rfl ?_
        refine lg 0 fl_ML_99 d_ML_feed_51 rfl rfl ?_
        exact ex_iret [LO x r (va_up f 15 (nI (t + 4))), TP G (r 4) (putB T t w 4)] hG d_ML_feed_54 rfl rfl (by decide) (by decide) (eg_sub.of rfl) ⟨by rw [if_pos h9]; rfl, by rw [if_pos h9, if_pos h9]⟩
      · skip
        have hlt := lt_n (a := 4) h18
        refine ex_al d_ML_feed_21 rfl ?_
        refine lg 0 fl_ML_36 d_ML_feed_22 rfl rfl ?_
        refine ex_al d_ML_feed_25 rfl ?_
        refine ex_dup d_ML_feed_26 rfl ?_
        refine lg 0 fl_ML_99 d_ML_feed_27 rfl rfl ?_
        refine ex_dup_x1 d_ML_feed_30 rfl rfl ?_
        refine ex_k d_ML_feed_31 ?_
        refine ex_iadd d_ML_feed_32 ?_
        refine ex_eqT [.int (nI (t + j + 1)), .ref x, .int (nI (t + j)), .ref (r 4)] (by show [Value.int (nI (t + j) + 1), _, _, _] = _; rw [nI_1]; rfl) ?_
        refine lp_15 0 wl_ML_99 d_ML_feed_33 rfl ?_
        refine ex_il d_ML_feed_36 rfl ?_
        refine ex_k d_ML_feed_37 ?_
        refine ex_il d_ML_feed_39 rfl ?_
        refine ex_imul d_ML_feed_40 ?_
        refine ex_ishr d_ML_feed_41 ?_
        refine ex_i2b d_ML_feed_42 ?_
        refine ex_bastp 1 0 d_ML_feed_43 rfl rfl (ix_e (j := t + j) (by omega)) ?_
        refine ex_eqS [LO x r (va_up f 15 (nI (t + (j + 1)))), TP G (r 4) (putB T t w (j + 1))] (by rw [bt_upd, show putB T t w (j + 1) = upd (putB T t w j) (t + j) (byK w j) from rfl, byK, ← pk_mul]; show [LO x r (va_up (va_up f 15 _) 15 _), _] = _; rw [bx_uu]; rfl) ?_
        refine ex_inc d_ML_feed_44 rfl ?_
        refine ex_goto d_ML_feed_47 ?_
        exact ih hlt
    exact ex_eqS [LO x r (va_up f 15 (nI (t + 0))), TP G (r 4) (putB T t w 0)] (by rw [Nat.add_zero, va_up_id ht]; rfl) (L 0 (Nat.zero_le _))
  · skip
    have h9 : ¬ t + 4 ≤ 1200 := fun z => h9 ((nI_leI (by omega) (by decide)).mpr z)
    refine ex_k d_ML_feed_12 ?_
    exact ex_iret [LO x r f, TP G (r 4) T] hG d_ML_feed_13 rfl rfl (by decide) (by decide) (eg_sub.of rfl) ⟨by rw [if_neg h9], by rw [if_neg h9, if_neg h9]⟩
