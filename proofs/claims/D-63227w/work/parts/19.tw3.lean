/-! THE TWIN, 3: tape, rows, arithmetic -/
def fedT (u : Nat → Int32) (t : Nat) (w : Int32) : Nat → (Nat → Int32) := putB u t w
set_option maxRecDepth 100000 in
theorem c_TM_feed (l : Launch) (G : eg_G) (h : Nat) (q : Nat → Nat) (f : Nat → Int32) (g : Nat → Nat → Int32) (w : Int32) (t : Nat) (ht : f 15 = nI t) (ht2 : t ≤ 1200) : Ct l G y_TM_feed 1 0 0 [.ref h, .int w] [TW G h q f g] (rF (some (.int (if t + 4 ≤ 1200 then nI (t + 4) else -1))) [TW G h q (if t + 4 ≤ 1200 then va_up (va_up f 0 0) 15 (nI (t + 4)) else va_up f 0 0) (if t + 4 ≤ 1200 then va_up g 16 (putB (g 16) t w 4) else g)]) := by
  refine Ct.of cd_TM_feed (eg_catb rfl) (Nat.le_of_ble_eq_true rfl) ?_
  intro Γ hG
  have hR := hG.rm
  show Ex G Γ mu_TM_feed 0 [some (.ref h), some (.int w), none] [] [TW G h q f g] 0 0
  refine ex_al d_TM_feed_0 rfl ?_
  refine ex_k d_TM_feed_1 ?_
  refine tp_0 0 wl_TM_57 d_TM_feed_2 rfl ?_
  refine ex_al d_TM_feed_5 rfl ?_
  refine tg 0 fl_TM_93 d_TM_feed_6 rfl rfl ?_
  refine ex_k d_TM_feed_9 ?_
  refine ex_iadd d_TM_feed_10 ?_
  refine ex_k d_TM_feed_11 ?_
  refine ex_eqT [.int 1200, .int (nI (t + 4))] (by rw [show (va_up f 0 0) 15 = f 15 from rfl, ht]; show [Value.int 1200, .int (nI t + nI 4)] = _; rw [nI_add]) ?_
  refine ex_icmp_le d_TM_feed_14 (fun h14 => ?_) (fun h14 => ?_)
  · skip
    have h14 : t + 4 ≤ 1200 := (nI_leI (by omega) (by decide)).mp h14
    refine ex_k d_TM_feed_19 ?_
    refine ex_is d_TM_feed_20 (Nat.le_of_ble_eq_true rfl) ?_
    have L : ∀ j, j ≤ 4 → Ex G Γ mu_TM_feed 21 [some (.ref h), some (.int w), some (.int (nI j))] [] [TW G h q (va_up f 0 0) (va_up g 16 (putB (g 16) t w j))] 0 0 := by
      refine eg_down 4 (fun j hj ih => ?_)
      refine ex_il d_TM_feed_21 rfl ?_
      refine ex_k d_TM_feed_22 ?_
      refine ex_icmp_ge d_TM_feed_23 (fun h23 => ?_) (fun h23 => ?_)
      · skip
        have h23 := le_n (a := 4) h23
        have hjn : j = 4 := by omega
        subst hjn
        refine ex_al d_TM_feed_53 rfl ?_
        refine ex_dup d_TM_feed_54 rfl ?_
        refine tg 0 fl_TM_93 d_TM_feed_55 rfl rfl ?_
        refine ex_k d_TM_feed_58 ?_
        refine ex_iadd d_TM_feed_59 ?_
        refine ex_eqT [.int (nI (t + 4)), .ref h] (by show [Value.int (f 15 + nI 4), .ref h] = _; rw [ht, nI_add]) ?_
        refine tp_15 0 wl_TM_93 d_TM_feed_60 rfl ?_
        refine ex_al d_TM_feed_63 rfl ?_
        refine tg 0 fl_TM_93 d_TM_feed_64 rfl rfl ?_
        exact ex_iret [TW G h q (va_up (va_up f 0 0) 15 (nI (t + 4))) (va_up g 16 (putB (g 16) t w 4))] hG d_TM_feed_67 rfl rfl (by decide) (by decide) (eg_sub.of rfl) ⟨by rw [if_pos h14]; rfl, by rw [if_pos h14, if_pos h14]⟩
      · skip
        have hlt := lt_n (a := 4) h23
        refine ex_al d_TM_feed_26 rfl ?_
        refine tg 0 fl_TM_47 d_TM_feed_27 rfl rfl ?_
        refine ex_al d_TM_feed_30 rfl ?_
        refine tg 0 fl_TM_93 d_TM_feed_31 rfl rfl ?_
        refine ex_il d_TM_feed_34 rfl ?_
        refine ex_iadd d_TM_feed_35 ?_
        refine ex_il d_TM_feed_36 rfl ?_
        refine ex_k d_TM_feed_37 ?_
        refine ex_il d_TM_feed_39 rfl ?_
        refine ex_imul d_TM_feed_40 ?_
        refine ex_ishr d_TM_feed_41 ?_
        refine ex_k d_TM_feed_42 ?_
        refine ex_iand d_TM_feed_45 ?_
        refine ts_16 0 d_TM_feed_46 rfl (ix_e (j := t + j) (by omega) (by rw [show (va_up f 0 0) 15 = f 15 from rfl, ht]; exact nI_add t j)) ?_
        refine ex_eqS [TW G h q (va_up f 0 0) (va_up g 16 (putB (g 16) t w (j + 1)))] (by show [TW G h q _ (va_up (va_up g 16 _) 16 _)] = _; rw [bx_uu]; rw [show putB (g 16) t w (j + 1) = upd (putB (g 16) t w j) (t + j) (byK w j) from rfl, byK, ← pk_mul]; rfl) ?_
        refine ex_inc d_TM_feed_47 rfl ?_
        refine ex_goto d_TM_feed_50 ?_
        exact ih hlt
    exact ex_eqS [TW G h q (va_up f 0 0) (va_up g 16 (putB (g 16) t w 0))] (by show [TW G h q (va_up f 0 0) g] = _; rw [show va_up g 16 (putB (g 16) t w 0) = g from funext fun z => by by_cases e : z = 16; rw [e]; rfl; exact if_neg e]) (L 0 (Nat.zero_le _))
  · skip
    have h14 : ¬ t + 4 ≤ 1200 := fun z => h14 ((nI_leI (by omega) (by decide)).mpr z)
    refine ex_k d_TM_feed_17 ?_
    exact ex_iret [TW G h q (va_up f 0 0) g] hG d_TM_feed_18 rfl rfl (by decide) (by decide) (eg_sub.of rfl) ⟨by rw [if_neg h14], by rw [if_neg h14, if_neg h14]⟩
set_option maxRecDepth 100000 in
theorem c_TM_feedByte (l : Launch) (G : eg_G) (h : Nat) (q : Nat → Nat) (f : Nat → Int32) (g : Nat → Nat → Int32) (w : Int32) (t : Nat) (ht : f 15 = nI t) (ht2 : t ≤ 1200) : Ct l G y_TM_feedByte 1 0 0 [.ref h, .int w] [TW G h q f g] (rF (some (.int (if t < 1200 then nI (t + 1) else -1))) [TW G h q (if t < 1200 then va_up (va_up f 0 0) 15 (nI (t + 1)) else va_up f 0 0) (if t < 1200 then va_up g 16 (upd (g 16) t (w &&& 255)) else g)]) := by
  refine Ct.of cd_TM_feedByte (eg_catb rfl) (Nat.le_of_ble_eq_true rfl) ?_
  intro Γ hG
  have hR := hG.rm
  show Ex G Γ mu_TM_feedByte 0 [some (.ref h), some (.int w)] [] [TW G h q f g] 0 0
  refine ex_al d_TM_feedByte_0 rfl ?_
  refine ex_k d_TM_feedByte_1 ?_
  refine tp_0 0 wl_TM_57 d_TM_feedByte_2 rfl ?_
  refine ex_al d_TM_feedByte_5 rfl ?_
  refine tg 0 fl_TM_93 d_TM_feedByte_6 rfl rfl ?_
  refine ex_k d_TM_feedByte_9 ?_
  refine ex_icmp_ne d_TM_feedByte_12 (fun h12 => ?_) (fun h12 => ?_)
  · skip
    have h12 : t < 1200 := by
      have : ¬ t = 1200 := fun z => h12 (show f 15 = 1200 by rw [ht, z]; rfl)
      omega
    refine ex_al d_TM_feedByte_17 rfl ?_
    refine tg 0 fl_TM_47 d_TM_feedByte_18 rfl rfl ?_
    refine ex_al d_TM_feedByte_21 rfl ?_
    refine tg 0 fl_TM_93 d_TM_feedByte_22 rfl rfl ?_
    refine ex_il d_TM_feedByte_25 rfl ?_
    refine ex_k d_TM_feedByte_26 ?_
    refine ex_iand d_TM_feedByte_29 ?_
    refine ts_16 0 d_TM_feedByte_30 rfl (ix_e (j := t) h12 ht) ?_
    refine ex_al d_TM_feedByte_31 rfl ?_
    refine ex_dup d_TM_feedByte_32 rfl ?_
    refine tg 0 fl_TM_93 d_TM_feedByte_33 rfl rfl ?_
    refine ex_k d_TM_feedByte_36 ?_
    refine ex_iadd d_TM_feedByte_37 ?_
    refine ex_eqT [.int (nI (t + 1)), .ref h] (by show [Value.int (f 15 + 1), .ref h] = _; rw [ht, nI_1]) ?_
    refine tp_15 0 wl_TM_93 d_TM_feedByte_38 rfl ?_
    refine ex_al d_TM_feedByte_41 rfl ?_
    refine tg 0 fl_TM_93 d_TM_feedByte_42 rfl rfl ?_
    exact ex_iret [TW G h q (va_up (va_up f 0 0) 15 (nI (t + 1))) (va_up g 16 (upd (g 16) t (w &&& 255)))] hG d_TM_feedByte_45 rfl rfl (by decide) (by decide) (eg_sub.of rfl) ⟨by rw [if_pos h12]; rfl, by rw [if_pos h12, if_pos h12]⟩
  · skip
    have h12 : ¬ t < 1200 := by
      have : t = 1200 := (nI_eq (by omega) (by decide)).mp (ht.symm.trans h12)
      omega
    refine ex_k d_TM_feedByte_15 ?_
    exact ex_iret [TW G h q (va_up f 0 0) g] hG d_TM_feedByte_16 rfl rfl (by decide) (by decide) (eg_sub.of rfl) ⟨by rw [if_neg h12], by rw [if_neg h12, if_neg h12]⟩
set_option maxRecDepth 100000 in
theorem c_TM_tapeWord (l : Launch) (G : eg_G) (h : Nat) (q : Nat → Nat) (f : Nat → Int32) (g : Nat → Nat → Int32) (a : Nat) (ha : a + 3 < 1200) : Ct l G y_TM_tapeWord 1 0 0 [.ref h, .int (nI a)] [TW G h q f g] (rF (some (.int (wdA (g 16) a))) [TW G h q f g]) := by
  refine Ct.of cd_TM_tapeWord (eg_catb rfl) (Nat.le_of_ble_eq_true rfl) ?_
  intro Γ hG
  have hR := hG.rm
  show Ex G Γ mu_TM_tapeWord 0 [some (.ref h), some (.int (nI a))] [] [TW G h q f g] 0 0
  refine ex_al d_TM_tapeWord_0 rfl ?_
  refine tg 0 fl_TM_47 d_TM_tapeWord_1 rfl rfl ?_
  refine ex_il d_TM_tapeWord_4 rfl ?_
  refine tl_16 0 d_TM_tapeWord_5 rfl (ix_e (j := a) (by omega)) ?_
  refine ex_al d_TM_tapeWord_6 rfl ?_
  refine tg 0 fl_TM_47 d_TM_tapeWord_7 rfl rfl ?_
  refine ex_il d_TM_tapeWord_10 rfl ?_
  refine ex_k d_TM_tapeWord_11 ?_
  refine ex_iadd d_TM_tapeWord_12 ?_
  refine tl_16 0 d_TM_tapeWord_13 rfl (ix_e (j := a + 1) (by omega) (nI_add a 1)) ?_
  refine ex_k d_TM_tapeWord_14 ?_
  refine ex_ishl d_TM_tapeWord_16 ?_
  refine ex_ior d_TM_tapeWord_17 ?_
  refine ex_al d_TM_tapeWord_18 rfl ?_
  refine tg 0 fl_TM_47 d_TM_tapeWord_19 rfl rfl ?_
  refine ex_il d_TM_tapeWord_22 rfl ?_
  refine ex_k d_TM_tapeWord_23 ?_
  refine ex_iadd d_TM_tapeWord_24 ?_
  refine tl_16 0 d_TM_tapeWord_25 rfl (ix_e (j := a + 2) (by omega) (nI_add a 2)) ?_
  refine ex_k d_TM_tapeWord_26 ?_
  refine ex_ishl d_TM_tapeWord_28 ?_
  refine ex_ior d_TM_tapeWord_29 ?_
  refine ex_al d_TM_tapeWord_30 rfl ?_
  refine tg 0 fl_TM_47 d_TM_tapeWord_31 rfl rfl ?_
  refine ex_il d_TM_tapeWord_34 rfl ?_
  refine ex_k d_TM_tapeWord_35 ?_
  refine ex_iadd d_TM_tapeWord_36 ?_
  refine tl_16 0 d_TM_tapeWord_37 rfl (ix_e (j := a + 3) (by omega) (nI_add a 3)) ?_
  refine ex_k d_TM_tapeWord_38 ?_
  refine ex_ishl d_TM_tapeWord_40 ?_
  refine ex_ior d_TM_tapeWord_41 ?_
  exact ex_iret [TW G h q f g] hG d_TM_tapeWord_42 rfl rfl (by decide) (by decide) (eg_sub.of rfl) ⟨rfl, rfl⟩
set_option maxRecDepth 100000 in
theorem c_TM_isOffset (l : Launch) (G : eg_G) (a e : Int32) : Ct l G y_TM_isOffset 1 0 0 [.int a, .int e] [] (rF (some (.int (bI (isWd a e)))) []) := by
  refine Ct.of cd_TM_isOffset (eg_catb rfl) (Nat.le_of_ble_eq_true rfl) ?_
  intro Γ hG
  have hR := hG.rm
  show Ex G Γ mu_TM_isOffset 0 [some (.int a), some (.int e)] [] [] 0 0
  have J : ∀ z : Int32, z = bI (isWd a e) → Ex G Γ mu_TM_isOffset 20 [some (.int a), some (.int e)] [.int z] [] 0 0 := by
    intro z hz
    subst hz
    exact ex_iret [] hG d_TM_isOffset_20 rfl (bI_n _) (by decide) (by decide) (eg_sub.of rfl) ⟨rfl, rfl⟩
  refine ex_il d_TM_isOffset_0 rfl ?_
  refine ex_if_lt d_TM_isOffset_1 (fun h1 => ?_) (fun h1 => ?_)
  · skip
    refine ex_k d_TM_isOffset_19 ?_
    exact J _ (by clear J hG hR; grind [bI, isWd])
  · skip
    refine ex_il d_TM_isOffset_4 rfl ?_
    refine ex_il d_TM_isOffset_5 rfl ?_
    refine ex_icmp_ge d_TM_isOffset_6 (fun h6 => ?_) (fun h6 => ?_)
    · skip
      refine ex_k d_TM_isOffset_19 ?_
      exact J _ (by clear J hG hR; grind [bI, isWd])
    · skip
      refine ex_il d_TM_isOffset_9 rfl ?_
      refine ex_k d_TM_isOffset_10 ?_
      refine ex_irem d_TM_isOffset_11 (by decide) ?_
      refine ex_if_ne d_TM_isOffset_12 (fun h12 => ?_) (fun h12 => ?_)
      · skip
        refine ex_k d_TM_isOffset_19 ?_
        exact J _ (by clear J hG hR; grind [bI, isWd])
      · skip
        refine ex_k d_TM_isOffset_15 ?_
        refine ex_goto d_TM_isOffset_16 ?_
        exact J _ (by clear J hG hR; grind [bI, isWd])
set_option maxRecDepth 100000 in
theorem c_TM_importAt (l : Launch) (G : eg_G) (h : Nat) (q : Nat → Nat) (f : Nat → Int32) (g : Nat → Nat → Int32) (x : Int32) : Ct l G y_TM_importAt 1 0 0 [.ref h, .int x] [TW G h q f g] (rF (some (.int (32 + f 26 + 8 * x))) [TW G h q f g]) := by
  refine Ct.of cd_TM_importAt (eg_catb rfl) (Nat.le_of_ble_eq_true rfl) ?_
  intro Γ hG
  have hR := hG.rm
  show Ex G Γ mu_TM_importAt 0 [some (.ref h), some (.int x)] [] [TW G h q f g] 0 0
  refine ex_k d_TM_importAt_0 ?_
  refine ex_al d_TM_importAt_2 rfl ?_
  refine tg 0 fl_TM_96 d_TM_importAt_3 rfl rfl ?_
  refine ex_iadd d_TM_importAt_6 ?_
  refine ex_k d_TM_importAt_7 ?_
  refine ex_il d_TM_importAt_9 rfl ?_
  refine ex_imul d_TM_importAt_10 ?_
  refine ex_iadd d_TM_importAt_11 ?_
  exact ex_iret [TW G h q f g] hG d_TM_importAt_12 rfl rfl (by decide) (by decide) (eg_sub.of rfl) ⟨rfl, rfl⟩
set_option maxRecDepth 100000 in
theorem c_TM_exportAt (l : Launch) (G : eg_G) (h : Nat) (q : Nat → Nat) (f : Nat → Int32) (g : Nat → Nat → Int32) (x : Int32) : Ct l G y_TM_exportAt 2 0 0 [.ref h, .int x] [TW G h q f g] (rF (some (.int (32 + f 26 + 8 * f 23 + 12 * x))) [TW G h q f g]) := by
  refine Ct.of cd_TM_exportAt (eg_catb rfl) (Nat.le_of_ble_eq_true rfl) ?_
  intro Γ hG
  have hR := hG.rm
  show Ex G Γ mu_TM_exportAt 0 [some (.ref h), some (.int x)] [] [TW G h q f g] 0 0
  refine ex_al d_TM_exportAt_0 rfl ?_
  refine ex_al d_TM_exportAt_1 rfl ?_
  refine tg 0 fl_TM_99 d_TM_exportAt_2 rfl rfl ?_
  refine ex_cF [0] hR (c_TM_importAt l G h q f g _) (eg_invV 0 d_TM_exportAt_5 cd_TM_importAt cx_TM_102 rfl rfl List.mem_cons_self rfl rfl) cd_TM_importAt rfl rfl (Nat.le_of_ble_eq_true rfl) (by decide) (by decide) (by decide) (by decide) rfl ?_
  refine ex_k d_TM_exportAt_8 ?_
  refine ex_il d_TM_exportAt_10 rfl ?_
  refine ex_imul d_TM_exportAt_11 ?_
  refine ex_iadd d_TM_exportAt_12 ?_
  exact ex_iret [TW G h q f g] hG d_TM_exportAt_13 rfl rfl (by decide) (by decide) (eg_sub.of rfl) ⟨rfl, rfl⟩
set_option maxRecDepth 100000 in
theorem c_TM_placeAt (l : Launch) (G : eg_G) (h : Nat) (q : Nat → Nat) (f : Nat → Int32) (g : Nat → Nat → Int32) (x : Int32) : Ct l G y_TM_placeAt 3 0 0 [.ref h, .int x] [TW G h q f g] (rF (some (.int (32 + f 26 + 8 * f 23 + 12 * f 24 + 16 * x))) [TW G h q f g]) := by
  refine Ct.of cd_TM_placeAt (eg_catb rfl) (Nat.le_of_ble_eq_true rfl) ?_
  intro Γ hG
  have hR := hG.rm
  show Ex G Γ mu_TM_placeAt 0 [some (.ref h), some (.int x)] [] [TW G h q f g] 0 0
  refine ex_al d_TM_placeAt_0 rfl ?_
  refine ex_al d_TM_placeAt_1 rfl ?_
  refine tg 0 fl_TM_105 d_TM_placeAt_2 rfl rfl ?_
  refine ex_cF [0] hR (c_TM_exportAt l G h q f g _) (eg_invV 0 d_TM_placeAt_5 cd_TM_exportAt cx_TM_108 rfl rfl List.mem_cons_self rfl rfl) cd_TM_exportAt rfl rfl (Nat.le_of_ble_eq_true rfl) (by decide) (by decide) (by decide) (by decide) rfl ?_
  refine ex_k d_TM_placeAt_8 ?_
  refine ex_il d_TM_placeAt_10 rfl ?_
  refine ex_imul d_TM_placeAt_11 ?_
  refine ex_iadd d_TM_placeAt_12 ?_
  exact ex_iret [TW G h q f g] hG d_TM_placeAt_13 rfl rfl (by decide) (by decide) (eg_sub.of rfl) ⟨rfl, rfl⟩
/-- row r is free: no module lies there -/
def rwP (g : Nat → Nat → Int32) (r : Int32) (m : Nat) : Bool := !(decide (¬ g 8 m = 0) && decide ((g 10 m - 512) / 16 ≤ r) && decide (r < (g 10 m - 512) / 16 + (g 11 m + 15) / 16))
def rwB (g : Nat → Nat → Int32) (r : Int32) : Bool := rall (rwP g r) 12
set_option maxRecDepth 100000 in
theorem c_TM_isRowFree (l : Launch) (G : eg_G) (h : Nat) (q : Nat → Nat) (f : Nat → Int32) (g : Nat → Nat → Int32) (r : Int32) : Ct l G y_TM_isRowFree 1 0 0 [.ref h, .int r] [TW G h q f g] (rF (some (.int (bI (rwB g r)))) [TW G h q f g]) := by
  refine Ct.of cd_TM_isRowFree (eg_catb rfl) (Nat.le_of_ble_eq_true rfl) ?_
  intro Γ hG
  have hR := hG.rm
  show Ex G Γ mu_TM_isRowFree 0 [some (.ref h), some (.int r), none, none] [] [TW G h q f g] 0 0
  refine ex_k d_TM_isRowFree_0 ?_
  refine ex_is d_TM_isRowFree_1 (Nat.le_of_ble_eq_true rfl) ?_
  refine ex_k d_TM_isRowFree_2 ?_
  refine ex_is d_TM_isRowFree_3 (Nat.le_of_ble_eq_true rfl) ?_
  have L : ∀ j, j ≤ 12 → Ex G Γ mu_TM_isRowFree 4 [some (.ref h), some (.int r), some (.int (bI (rall (rwP g r) j))), some (.int (nI j))] [] [TW G h q f g] 0 0 := by
    refine eg_down 12 (fun j hj ih => ?_)
    refine ex_il d_TM_isRowFree_4 rfl ?_
    refine ex_k d_TM_isRowFree_5 ?_
    refine ex_icmp_ge d_TM_isRowFree_7 (fun h7 => ?_) (fun h7 => ?_)
    · skip
      have h7 := le_n (a := 12) h7
      have hj4 : j = 12 := by omega
      subst hj4
      refine ex_il d_TM_isRowFree_82 rfl ?_
      exact ex_iret [TW G h q f g] hG d_TM_isRowFree_83 rfl (bI_n _) (by decide) (by decide) (eg_sub.of rfl) ⟨rfl, rfl⟩
    · skip
      have hlt := lt_n (a := 12) h7
      have J3 : ∀ z : Int32, z = bI (rall (rwP g r) (j + 1)) → Ex G Γ mu_TM_isRowFree 75 [some (.ref h), some (.int r), some (.int (bI (rall (rwP g r) j))), some (.int (nI j))] [.int z] [TW G h q f g] 0 0 := by
        intro z hz
        subst hz
        refine ex_is d_TM_isRowFree_75 (Nat.le_of_ble_eq_true rfl) ?_
        refine ex_inc d_TM_isRowFree_76 rfl ?_
        refine ex_goto d_TM_isRowFree_79 ?_
        exact ih hlt
      refine ex_il d_TM_isRowFree_10 rfl ?_
      refine ex_if_eq d_TM_isRowFree_11 (fun h11 => ?_) (fun h11 => ?_)
      · skip
        refine ex_k d_TM_isRowFree_74 ?_
        exact J3 _ (by rw [rall_s]; clear J3 ih hG hR; grind [rwP, bI])
      · skip
        refine ex_al d_TM_isRowFree_14 rfl ?_
        refine tg 0 fl_TM_25 d_TM_isRowFree_15 rfl rfl ?_
        refine ex_il d_TM_isRowFree_18 rfl ?_
        refine tl_8 0 d_TM_isRowFree_19 rfl (ix_e hlt) ?_
        refine ex_if_eq d_TM_isRowFree_20 (fun h20 => ?_) (fun h20 => ?_)
        · skip
          refine ex_k d_TM_isRowFree_70 ?_
          refine ex_goto d_TM_isRowFree_71 ?_
          exact J3 _ (by rw [rall_s]; clear J3 ih hG hR; grind [rwP, bI])
        · skip
          refine ex_il d_TM_isRowFree_23 rfl ?_
          refine ex_al d_TM_isRowFree_24 rfl ?_
          refine tg 0 fl_TM_32 d_TM_isRowFree_25 rfl rfl ?_
          refine ex_il d_TM_isRowFree_28 rfl ?_
          refine tl_10 0 d_TM_isRowFree_29 rfl (ix_e hlt) ?_
          refine ex_k d_TM_isRowFree_30 ?_
          refine ex_isub d_TM_isRowFree_33 ?_
          refine ex_k d_TM_isRowFree_34 ?_
          refine ex_idiv d_TM_isRowFree_36 (by decide) ?_
          refine ex_icmp_lt d_TM_isRowFree_37 (fun h37 => ?_) (fun h37 => ?_)
          · skip
            refine ex_k d_TM_isRowFree_70 ?_
            refine ex_goto d_TM_isRowFree_71 ?_
            exact J3 _ (by rw [rall_s]; clear J3 ih hG hR; grind [rwP, bI])
          · skip
            refine ex_il d_TM_isRowFree_40 rfl ?_
            refine ex_al d_TM_isRowFree_41 rfl ?_
            refine tg 0 fl_TM_32 d_TM_isRowFree_42 rfl rfl ?_
            refine ex_il d_TM_isRowFree_45 rfl ?_
            refine tl_10 0 d_TM_isRowFree_46 rfl (ix_e hlt) ?_
            refine ex_k d_TM_isRowFree_47 ?_
            refine ex_isub d_TM_isRowFree_50 ?_
            refine ex_k d_TM_isRowFree_51 ?_
            refine ex_idiv d_TM_isRowFree_53 (by decide) ?_
            refine ex_al d_TM_isRowFree_54 rfl ?_
            refine tg 0 fl_TM_35 d_TM_isRowFree_55 rfl rfl ?_
            refine ex_il d_TM_isRowFree_58 rfl ?_
            refine tl_11 0 d_TM_isRowFree_59 rfl (ix_e hlt) ?_
            refine ex_k d_TM_isRowFree_60 ?_
            refine ex_iadd d_TM_isRowFree_62 ?_
            refine ex_k d_TM_isRowFree_63 ?_
            refine ex_idiv d_TM_isRowFree_65 (by decide) ?_
            refine ex_iadd d_TM_isRowFree_66 ?_
            refine ex_icmp_lt d_TM_isRowFree_67 (fun h67 => ?_) (fun h67 => ?_)
            · skip
              refine ex_k d_TM_isRowFree_74 ?_
              exact J3 _ (by rw [rall_s]; clear J3 ih hG hR; grind [rwP, bI])
            · skip
              refine ex_k d_TM_isRowFree_70 ?_
              refine ex_goto d_TM_isRowFree_71 ?_
              exact J3 _ (by rw [rall_s]; clear J3 ih hG hR; grind [rwP, bI])
  exact L 0 (Nat.zero_le _)
/-- the lowest run of n free rows: how many free rows end at row k; the first k where it is n -/
def rwC (p : Nat → Bool) : Nat → Nat
  | 0 => 0
  | k + 1 => if p k = true then rwC p k + 1 else 0
def rwF (p : Nat → Bool) (n N : Nat) : Option Nat := tfind (fun k => decide (rwC p (k + 1) = n)) N
def rowP (g : Nat → Nat → Int32) (k : Nat) : Bool := rwB g (nI k)
theorem rwC_le (p : Nat → Bool) : ∀ k, rwC p k ≤ k
  | 0 => Nat.le_refl _
  | k + 1 => by have := rwC_le p k; simp only [rwC]; split <;> omega
def roomI (g : Nat → Nat → Int32) (n : Nat) : Int32 := match rwF (rowP g) n 208 with
  | some k => nI (512 + 16 * (k + 1 - n))
  | none => -1
set_option maxRecDepth 100000 in
theorem c_TM_room (l : Launch) (G : eg_G) (h : Nat) (q : Nat → Nat) (f : Nat → Int32) (g : Nat → Nat → Int32) (n : Nat) (hn : 0 < n) (hn2 : n < 1000) : Ct l G y_TM_room 2 0 0 [.ref h, .int (nI n)] [TW G h q f g] (rF (some (.int (roomI g n))) [TW G h q f g]) := by
  refine Ct.of cd_TM_room (eg_catb rfl) (Nat.le_of_ble_eq_true rfl) ?_
  intro Γ hG
  have hR := hG.rm
  show Ex G Γ mu_TM_room 0 [some (.ref h), some (.int (nI n)), none, none] [] [TW G h q f g] 0 0
  refine ex_k d_TM_room_0 ?_
  refine ex_is d_TM_room_1 (Nat.le_of_ble_eq_true rfl) ?_
  refine ex_k d_TM_room_2 ?_
  refine ex_is d_TM_room_3 (Nat.le_of_ble_eq_true rfl) ?_
  have L : ∀ j, j ≤ 208 → (∀ i, i < j → decide (rwC (rowP g) (i + 1) = n) = false) → Ex G Γ mu_TM_room 4 [some (.ref h), some (.int (nI n)), some (.int (nI (rwC (rowP g) j))), some (.int (nI j))] [] [TW G h q f g] 0 0 := by
    refine eg_down 208 (fun j hj ih hno => ?_)
    have hc := rwC_le (rowP g) j
    refine ex_il d_TM_room_4 rfl ?_
    refine ex_k d_TM_room_5 ?_
    refine ex_icmp_ge d_TM_room_8 (fun h8 => ?_) (fun h8 => ?_)
    · skip
      have h8 := le_n (a := 208) h8
      have hj4 : j = 208 := by omega
      subst hj4
      refine ex_k d_TM_room_51 ?_
      exact ex_iret [TW G h q f g] hG d_TM_room_52 rfl rfl (by decide) (by decide) (eg_sub.of rfl) ⟨by rw [roomI, rwF, tfind_none hno], rfl⟩
    · skip
      have hlt := lt_n (a := 208) h8
      have hc1 := rwC_le (rowP g) (j + 1)
      refine ex_al d_TM_room_11 rfl ?_
      refine ex_il d_TM_room_12 rfl ?_
      refine ex_cF [0] hR (c_TM_isRowFree l G h q f g (nI j)) (eg_invV 0 d_TM_room_13 cd_TM_isRowFree cx_TM_133 rfl rfl List.mem_cons_self rfl rfl) cd_TM_isRowFree rfl rfl (Nat.le_of_ble_eq_true rfl) (by decide) (by decide) (by decide) (by decide) rfl ?_
      have J3 : ∀ z : Int32, z = nI (rwC (rowP g) (j + 1)) → Ex G Γ mu_TM_room 26 [some (.ref h), some (.int (nI n)), some (.int (nI (rwC (rowP g) j))), some (.int (nI j))] [.int z] [TW G h q f g] 0 0 := by
        intro z hz
        subst hz
        refine ex_is d_TM_room_26 (Nat.le_of_ble_eq_true rfl) ?_
        refine ex_il d_TM_room_27 rfl ?_
        refine ex_il d_TM_room_28 rfl ?_
        refine ex_icmp_ne d_TM_room_29 (fun h29 => ?_) (fun h29 => ?_)
        · skip
          have h29 : ¬ rwC (rowP g) (j + 1) = n := fun z => h29 (by rw [z])
          refine ex_inc d_TM_room_45 rfl ?_
          refine ex_goto d_TM_room_48 ?_
          exact ih hlt (fun i hi => by rcases Nat.lt_or_ge i j with z | z; exact hno i z; rw [show i = j by omega]; simpa using h29)
        · skip
          have h29 : rwC (rowP g) (j + 1) = n := (nI_eq (by omega) (by omega)).mp h29
          refine ex_k d_TM_room_32 ?_
          refine ex_k d_TM_room_35 ?_
          refine ex_il d_TM_room_37 rfl ?_
          refine ex_il d_TM_room_38 rfl ?_
          refine ex_isub d_TM_room_39 ?_
          refine ex_k d_TM_room_40 ?_
          refine ex_iadd d_TM_room_41 ?_
          refine ex_imul d_TM_room_42 ?_
          refine ex_iadd d_TM_room_43 ?_
          exact ex_iret [TW G h q f g] hG d_TM_room_44 rfl rfl (by decide) (by decide) (eg_sub.of rfl) ⟨by rw [roomI, rwF, tfind_some (j := j) hlt (by simpa using h29) hno]; show (Sum.inl (some (Value.int (nI 512 + nI 16 * (nI j - nI n + nI 1)))) : eg_O) = Sum.inl (some (Value.int (nI (512 + 16 * (j + 1 - n))))); rw [show nI j - nI n + nI 1 = nI (j + 1 - n) by rw [show nI j - nI n + nI 1 = (nI j + nI 1) - nI n by grind, nI_add, pk_sub (by omega)], pk_mul, nI_add], rfl⟩
      refine ex_if_eq d_TM_room_16 (fun h16 => ?_) (fun h16 => ?_)
      · skip
        have h16 : rowP g j = false := bI_0.mp h16
        refine ex_k d_TM_room_25 ?_
        exact J3 _ (by rw [rwC, if_neg (by rw [h16]; decide)]; rfl)
      · skip
        have h16 : ¬ rowP g j = false := fun z => h16 (bI_0.mpr z)
        refine ex_il d_TM_room_19 rfl ?_
        refine ex_k d_TM_room_20 ?_
        refine ex_iadd d_TM_room_21 ?_
        refine ex_goto d_TM_room_22 ?_
        exact J3 _ (by rw [rwC, if_pos (by simpa using h16), nI_1])
  exact L 0 (Nat.zero_le _) (fun i hi => absurd hi (Nat.not_lt_zero _))
def blB (x y : Int32) : Bool := decide (x + (-2147483648) < y + (-2147483648))
def soB (k x y : Int32) : Bool := decide (k - k / 2 * 2 = 0) == (if k < 2 then decide (x = y) else if k < 6 then decide (x < y) else blB x y)
def rkI (k x y : Int32) (o : Bool) : Int32 := if k = 0 then x + y else if k = 1 then x <<< (y &&& 31) else if k = 2 then bI (decide (x < y)) else if k = 3 then bI (blB x y) else if k = 4 then x ^^^ y else if k = 5 then (if o = true then x >>> (y &&& 31) else (x.toUInt32 >>> (y.toUInt32 &&& Int32.toUInt32 31)).toInt32) else if k = 6 then x ||| y else x &&& y
def acI (a n : Int32) : Int32 := if a - a / n * n = 0 then (if a < 0 ∨ 4096 ≤ a then 5 else 0) else 4
set_option maxRecDepth 100000 in
theorem c_TM_isBelow (l : Launch) (G : eg_G) (x y : Int32) : Ct l G y_TM_isBelow 1 0 0 [.int x, .int y] [] (rF (some (.int (bI (blB x y)))) []) := by
  refine Ct.of cd_TM_isBelow (eg_catb rfl) (Nat.le_of_ble_eq_true rfl) ?_
  intro Γ hG
  have hR := hG.rm
  show Ex G Γ mu_TM_isBelow 0 [some (.int x), some (.int y)] [] [] 0 0
  refine ex_il d_TM_isBelow_0 rfl ?_
  refine ex_k d_TM_isBelow_1 ?_
  refine ex_iadd d_TM_isBelow_3 ?_
  refine ex_il d_TM_isBelow_4 rfl ?_
  refine ex_k d_TM_isBelow_5 ?_
  refine ex_iadd d_TM_isBelow_7 ?_
  refine ex_icmp_ge d_TM_isBelow_8 (fun h8 => ?_) (fun h8 => ?_)
  · skip
    refine ex_k d_TM_isBelow_15 ?_
    exact ex_iret [] hG d_TM_isBelow_16 rfl rfl (by decide) (by decide) (eg_sub.of rfl) ⟨by rw [show blB x y = false from decide_eq_false (fun z => absurd h8 (Int32.not_le.mpr z))]; rfl, rfl⟩
  · skip
    refine ex_k d_TM_isBelow_11 ?_
    refine ex_goto d_TM_isBelow_12 ?_
    exact ex_iret [] hG d_TM_isBelow_16 rfl rfl (by decide) (by decide) (eg_sub.of rfl) ⟨by rw [show blB x y = true from decide_eq_true (Int32.not_le.mp h8)]; rfl, rfl⟩
set_option maxRecDepth 100000 in
theorem c_TM_isSo (l : Launch) (G : eg_G) (k x y : Int32) : Ct l G y_TM_isSo 2 0 0 [.int k, .int x, .int y] [] (rF (some (.int (bI (soB k x y)))) []) := by
  refine Ct.of cd_TM_isSo (eg_catb rfl) (Nat.le_of_ble_eq_true rfl) ?_
  intro Γ hG
  have hR := hG.rm
  show Ex G Γ mu_TM_isSo 0 [some (.int k), some (.int x), some (.int y), none] [] [] 0 0
  have J : ∀ z : Int32, z = bI (if k < 2 then decide (x = y) else if k < 6 then decide (x < y) else blB x y) → Ex G Γ mu_TM_isSo 42 [some (.int k), some (.int x), some (.int y), none] [.int z] [] 0 0 := by
    intro z hz
    subst hz
    refine ex_is d_TM_isSo_42 (Nat.le_of_ble_eq_true rfl) ?_
    have J2 : ∀ z : Int32, z = bI (soB k x y) → Ex G Γ mu_TM_isSo 63 [some (.int k), some (.int x), some (.int y), some (.int (bI (if k < 2 then decide (x = y) else if k < 6 then decide (x < y) else blB x y)))] [.int z] [] 0 0 := by
      intro z hz
      subst hz
      exact ex_iret [] hG d_TM_isSo_63 rfl (bI_n _) (by decide) (by decide) (eg_sub.of rfl) ⟨rfl, rfl⟩
    have J3 : ∀ z : Int32, z = bI (decide (k - k / 2 * 2 = 0)) → Ex G Γ mu_TM_isSo 54 [some (.int k), some (.int x), some (.int y), some (.int (bI (if k < 2 then decide (x = y) else if k < 6 then decide (x < y) else blB x y)))] [.int z] [] 0 0 := by
      intro z hz
      subst hz
      refine ex_il d_TM_isSo_54 rfl ?_
      refine ex_icmp_ne d_TM_isSo_55 (fun h55 => ?_) (fun h55 => ?_)
      · skip
        refine ex_k d_TM_isSo_62 ?_
        exact J2 _ (by clear J2 hG hR; unfold soB; generalize (if k < 2 then decide (x = y) else if k < 6 then decide (x < y) else blB x y) = b1 at *; generalize (decide (k - k / 2 * 2 = 0)) = b2 at *; revert h55; cases b1 <;> cases b2 <;> decide)
      · skip
        refine ex_k d_TM_isSo_58 ?_
        refine ex_goto d_TM_isSo_59 ?_
        exact J2 _ (by clear J2 hG hR; unfold soB; generalize (if k < 2 then decide (x = y) else if k < 6 then decide (x < y) else blB x y) = b1 at *; generalize (decide (k - k / 2 * 2 = 0)) = b2 at *; revert h55; cases b1 <;> cases b2 <;> decide)
    refine ex_il d_TM_isSo_43 rfl ?_
    refine ex_k d_TM_isSo_44 ?_
    refine ex_irem d_TM_isSo_45 (by decide) ?_
    refine ex_if_ne d_TM_isSo_46 (fun h46 => ?_) (fun h46 => ?_)
    · skip
      refine ex_k d_TM_isSo_53 ?_
      exact J3 _ (by clear J2 J3 hG hR; grind [bI])
    · skip
      refine ex_k d_TM_isSo_49 ?_
      refine ex_goto d_TM_isSo_50 ?_
      exact J3 _ (by clear J2 J3 hG hR; grind [bI])
  refine ex_il d_TM_isSo_0 rfl ?_
  refine ex_k d_TM_isSo_1 ?_
  refine ex_icmp_ge d_TM_isSo_2 (fun h2 => ?_) (fun h2 => ?_)
  · skip
    have h2x : ¬ k < 2 := Int32.not_lt.mpr h2
    refine ex_il d_TM_isSo_18 rfl ?_
    refine ex_k d_TM_isSo_19 ?_
    refine ex_icmp_ge d_TM_isSo_21 (fun h21 => ?_) (fun h21 => ?_)
    · skip
      refine ex_il d_TM_isSo_37 rfl ?_
      refine ex_il d_TM_isSo_38 rfl ?_
      refine ex_cP hR (c_TM_isBelow l G x y) (eg_invS d_TM_isSo_39 cd_TM_isBelow cx_TM_217 rfl rfl) cd_TM_isBelow (Nat.le_of_ble_eq_true rfl) (by decide) (by decide) (by decide) (by decide) rfl ?_
      exact J _ (by clear J hG hR; grind [bI])
    · skip
      refine ex_il d_TM_isSo_24 rfl ?_
      refine ex_il d_TM_isSo_25 rfl ?_
      refine ex_icmp_ge d_TM_isSo_26 (fun h26 => ?_) (fun h26 => ?_)
      · skip
        refine ex_k d_TM_isSo_33 ?_
        refine ex_goto d_TM_isSo_34 ?_
        exact J _ (by clear J hG hR; grind [bI])
      · skip
        refine ex_k d_TM_isSo_29 ?_
        refine ex_goto d_TM_isSo_30 ?_
        exact J _ (by clear J hG hR; grind [bI])
  · skip
    skip
    refine ex_il d_TM_isSo_5 rfl ?_
    refine ex_il d_TM_isSo_6 rfl ?_
    refine ex_icmp_ne d_TM_isSo_7 (fun h7 => ?_) (fun h7 => ?_)
    · skip
      refine ex_k d_TM_isSo_14 ?_
      refine ex_goto d_TM_isSo_15 ?_
      exact J _ (by clear J hG hR; grind [bI])
    · skip
      refine ex_k d_TM_isSo_10 ?_
      refine ex_goto d_TM_isSo_11 ?_
      exact J _ (by clear J hG hR; grind [bI])
