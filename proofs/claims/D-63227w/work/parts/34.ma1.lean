/-! THE MACHINE, 1 -/
def isI (a n : Int32) : Bool := decide (0 ≤ a) && decide (a ≤ 4096 - n)
def cpI (x y : Int32) : Int32 := if x < y then -1 else if x = y then 0 else 1
def cuI (x y : Int32) : Int32 := cpI (x + (-2147483648)) (y + (-2147483648))
theorem cuI_lt (x y : Int32) : cuI x y < 0 ↔ blB x y = true := by
  unfold cuI cpI blB
  generalize x + (-2147483648) = u
  generalize y + (-2147483648) = v
  rw [decide_eq_true_eq]
  by_cases h : u < v
  · rw [if_pos h]; exact ⟨fun _ => h, fun _ => by decide⟩
  · rw [if_neg h]
    refine ⟨fun z => ?_, fun z => absurd z h⟩
    by_cases h2 : u = v
    · rw [if_pos h2] at z; exact absurd z (by decide)
    · rw [if_neg h2] at z; exact absurd z (by decide)
set_option maxRecDepth 100000 in
theorem c_ML_rd (l : Launch) (G : eg_G) (w : Int32) : Ct l G y_ML_rd 1 0 0 [.int w] [] (rF (some (.int (r5 w 7))) []) := by
  refine Ct.of cd_ML_rd (eg_catb rfl) (Nat.le_of_ble_eq_true rfl) ?_
  intro Γ hG
  have hR := hG.rm
  show Ex G Γ mu_ML_rd 0 [some (.int w)] [] [] 0 0
  refine ex_il d_ML_rd_0 rfl ?_
  refine ex_k d_ML_rd_1 ?_
  refine ex_ishr d_ML_rd_3 ?_
  refine ex_k d_ML_rd_4 ?_
  refine ex_iand d_ML_rd_6 ?_
  exact ex_iret [] hG d_ML_rd_7 rfl rfl (by decide) (by decide) (eg_sub.of rfl) ⟨rfl, rfl⟩
set_option maxRecDepth 100000 in
theorem c_ML_rs1 (l : Launch) (G : eg_G) (w : Int32) : Ct l G y_ML_rs1 1 0 0 [.int w] [] (rF (some (.int (r5 w 15))) []) := by
  refine Ct.of cd_ML_rs1 (eg_catb rfl) (Nat.le_of_ble_eq_true rfl) ?_
  intro Γ hG
  have hR := hG.rm
  show Ex G Γ mu_ML_rs1 0 [some (.int w)] [] [] 0 0
  refine ex_il d_ML_rs1_0 rfl ?_
  refine ex_k d_ML_rs1_1 ?_
  refine ex_ishr d_ML_rs1_3 ?_
  refine ex_k d_ML_rs1_4 ?_
  refine ex_iand d_ML_rs1_6 ?_
  exact ex_iret [] hG d_ML_rs1_7 rfl rfl (by decide) (by decide) (eg_sub.of rfl) ⟨rfl, rfl⟩
set_option maxRecDepth 100000 in
theorem c_ML_rs2 (l : Launch) (G : eg_G) (w : Int32) : Ct l G y_ML_rs2 1 0 0 [.int w] [] (rF (some (.int (r5 w 20))) []) := by
  refine Ct.of cd_ML_rs2 (eg_catb rfl) (Nat.le_of_ble_eq_true rfl) ?_
  intro Γ hG
  have hR := hG.rm
  show Ex G Γ mu_ML_rs2 0 [some (.int w)] [] [] 0 0
  refine ex_il d_ML_rs2_0 rfl ?_
  refine ex_k d_ML_rs2_1 ?_
  refine ex_ishr d_ML_rs2_3 ?_
  refine ex_k d_ML_rs2_4 ?_
  refine ex_iand d_ML_rs2_6 ?_
  exact ex_iret [] hG d_ML_rs2_7 rfl rfl (by decide) (by decide) (eg_sub.of rfl) ⟨rfl, rfl⟩
set_option maxRecDepth 100000 in
theorem c_ML_middle (l : Launch) (G : eg_G) (w : Int32) : Ct l G y_ML_middle 1 0 0 [.int w] [] (rF (some (.int (wK w))) []) := by
  refine Ct.of cd_ML_middle (eg_catb rfl) (Nat.le_of_ble_eq_true rfl) ?_
  intro Γ hG
  have hR := hG.rm
  show Ex G Γ mu_ML_middle 0 [some (.int w)] [] [] 0 0
  refine ex_il d_ML_middle_0 rfl ?_
  refine ex_k d_ML_middle_1 ?_
  refine ex_ishr d_ML_middle_3 ?_
  refine ex_k d_ML_middle_4 ?_
  refine ex_iand d_ML_middle_6 ?_
  exact ex_iret [] hG d_ML_middle_7 rfl rfl (by decide) (by decide) (eg_sub.of rfl) ⟨rfl, rfl⟩
set_option maxRecDepth 100000 in
theorem c_ML_top (l : Launch) (G : eg_G) (w : Int32) : Ct l G y_ML_top 1 0 0 [.int w] [] (rF (some (.int (wT w))) []) := by
  refine Ct.of cd_ML_top (eg_catb rfl) (Nat.le_of_ble_eq_true rfl) ?_
  intro Γ hG
  have hR := hG.rm
  show Ex G Γ mu_ML_top 0 [some (.int w)] [] [] 0 0
  refine ex_il d_ML_top_0 rfl ?_
  refine ex_k d_ML_top_1 ?_
  refine ex_iushr d_ML_top_3 ?_
  exact ex_iret [] hG d_ML_top_4 rfl rfl (by decide) (by decide) (eg_sub.of rfl) ⟨rfl, rfl⟩
set_option maxRecDepth 100000 in
theorem c_ML_immediate (l : Launch) (G : eg_G) (w : Int32) : Ct l G y_ML_immediate 1 0 0 [.int w] [] (rF (some (.int (wI w))) []) := by
  refine Ct.of cd_ML_immediate (eg_catb rfl) (Nat.le_of_ble_eq_true rfl) ?_
  intro Γ hG
  have hR := hG.rm
  show Ex G Γ mu_ML_immediate 0 [some (.int w)] [] [] 0 0
  refine ex_il d_ML_immediate_0 rfl ?_
  refine ex_k d_ML_immediate_1 ?_
  refine ex_ishr d_ML_immediate_3 ?_
  exact ex_iret [] hG d_ML_immediate_4 rfl rfl (by decide) (by decide) (eg_sub.of rfl) ⟨rfl, rfl⟩
set_option maxRecDepth 100000 in
theorem c_ML_branchOf (l : Launch) (G : eg_G) (w : Int32) : Ct l G y_ML_branchOf 1 0 0 [.int w] [] (rF (some (.int (wB w))) []) := by
  refine Ct.of cd_ML_branchOf (eg_catb rfl) (Nat.le_of_ble_eq_true rfl) ?_
  intro Γ hG
  have hR := hG.rm
  show Ex G Γ mu_ML_branchOf 0 [some (.int w)] [] [] 0 0
  refine ex_il d_ML_branchOf_0 rfl ?_
  refine ex_k d_ML_branchOf_1 ?_
  refine ex_ishr d_ML_branchOf_3 ?_
  refine ex_k d_ML_branchOf_4 ?_
  refine ex_ishl d_ML_branchOf_6 ?_
  refine ex_il d_ML_branchOf_7 rfl ?_
  refine ex_k d_ML_branchOf_8 ?_
  refine ex_ishr d_ML_branchOf_10 ?_
  refine ex_k d_ML_branchOf_11 ?_
  refine ex_iand d_ML_branchOf_12 ?_
  refine ex_k d_ML_branchOf_13 ?_
  refine ex_ishl d_ML_branchOf_15 ?_
  refine ex_ior d_ML_branchOf_16 ?_
  refine ex_il d_ML_branchOf_17 rfl ?_
  refine ex_k d_ML_branchOf_18 ?_
  refine ex_ishr d_ML_branchOf_20 ?_
  refine ex_k d_ML_branchOf_21 ?_
  refine ex_iand d_ML_branchOf_23 ?_
  refine ex_k d_ML_branchOf_24 ?_
  refine ex_ishl d_ML_branchOf_25 ?_
  refine ex_ior d_ML_branchOf_26 ?_
  refine ex_il d_ML_branchOf_27 rfl ?_
  refine ex_k d_ML_branchOf_28 ?_
  refine ex_ishr d_ML_branchOf_30 ?_
  refine ex_k d_ML_branchOf_31 ?_
  refine ex_iand d_ML_branchOf_33 ?_
  refine ex_k d_ML_branchOf_34 ?_
  refine ex_ishl d_ML_branchOf_35 ?_
  refine ex_ior d_ML_branchOf_36 ?_
  exact ex_iret [] hG d_ML_branchOf_37 rfl rfl (by decide) (by decide) (eg_sub.of rfl) ⟨rfl, rfl⟩
set_option maxRecDepth 100000 in
theorem c_ML_jumpOf (l : Launch) (G : eg_G) (w : Int32) : Ct l G y_ML_jumpOf 1 0 0 [.int w] [] (rF (some (.int (wJ w))) []) := by
  refine Ct.of cd_ML_jumpOf (eg_catb rfl) (Nat.le_of_ble_eq_true rfl) ?_
  intro Γ hG
  have hR := hG.rm
  show Ex G Γ mu_ML_jumpOf 0 [some (.int w)] [] [] 0 0
  refine ex_il d_ML_jumpOf_0 rfl ?_
  refine ex_k d_ML_jumpOf_1 ?_
  refine ex_ishr d_ML_jumpOf_3 ?_
  refine ex_k d_ML_jumpOf_4 ?_
  refine ex_ishl d_ML_jumpOf_6 ?_
  refine ex_il d_ML_jumpOf_7 rfl ?_
  refine ex_k d_ML_jumpOf_8 ?_
  refine ex_ishr d_ML_jumpOf_10 ?_
  refine ex_k d_ML_jumpOf_11 ?_
  refine ex_iand d_ML_jumpOf_14 ?_
  refine ex_k d_ML_jumpOf_15 ?_
  refine ex_ishl d_ML_jumpOf_17 ?_
  refine ex_ior d_ML_jumpOf_18 ?_
  refine ex_il d_ML_jumpOf_19 rfl ?_
  refine ex_k d_ML_jumpOf_20 ?_
  refine ex_ishr d_ML_jumpOf_22 ?_
  refine ex_k d_ML_jumpOf_23 ?_
  refine ex_iand d_ML_jumpOf_24 ?_
  refine ex_k d_ML_jumpOf_25 ?_
  refine ex_ishl d_ML_jumpOf_27 ?_
  refine ex_ior d_ML_jumpOf_28 ?_
  refine ex_il d_ML_jumpOf_29 rfl ?_
  refine ex_k d_ML_jumpOf_30 ?_
  refine ex_ishr d_ML_jumpOf_32 ?_
  refine ex_k d_ML_jumpOf_33 ?_
  refine ex_iand d_ML_jumpOf_36 ?_
  refine ex_k d_ML_jumpOf_37 ?_
  refine ex_ishl d_ML_jumpOf_38 ?_
  refine ex_ior d_ML_jumpOf_39 ?_
  exact ex_iret [] hG d_ML_jumpOf_40 rfl rfl (by decide) (by decide) (eg_sub.of rfl) ⟨rfl, rfl⟩
set_option maxRecDepth 100000 in
theorem c_ML_storeOf (l : Launch) (G : eg_G) (w : Int32) : Ct l G y_ML_storeOf 1 0 0 [.int w] [] (rF (some (.int (wS w))) []) := by
  refine Ct.of cd_ML_storeOf (eg_catb rfl) (Nat.le_of_ble_eq_true rfl) ?_
  intro Γ hG
  have hR := hG.rm
  show Ex G Γ mu_ML_storeOf 0 [some (.int w)] [] [] 0 0
  refine ex_il d_ML_storeOf_0 rfl ?_
  refine ex_k d_ML_storeOf_1 ?_
  refine ex_ishr d_ML_storeOf_3 ?_
  refine ex_k d_ML_storeOf_4 ?_
  refine ex_ishl d_ML_storeOf_5 ?_
  refine ex_il d_ML_storeOf_6 rfl ?_
  refine ex_k d_ML_storeOf_7 ?_
  refine ex_ishr d_ML_storeOf_9 ?_
  refine ex_k d_ML_storeOf_10 ?_
  refine ex_iand d_ML_storeOf_12 ?_
  refine ex_ior d_ML_storeOf_13 ?_
  exact ex_iret [] hG d_ML_storeOf_14 rfl rfl (by decide) (by decide) (eg_sub.of rfl) ⟨rfl, rfl⟩
set_option maxRecDepth 100000 in
theorem c_In_compare (l : Launch) (G : eg_G) (x y : Int32) : Ct l G y_In_compare 1 0 0 [.int x, .int y] [] (rF (some (.int (cpI x y))) []) := by
  refine Ct.of cd_In_compare (eg_catb rfl) (Nat.le_of_ble_eq_true rfl) ?_
  intro Γ hG
  have hR := hG.rm
  show Ex G Γ mu_In_compare 0 [some (.int x), some (.int y)] [] [] 0 0
  have J : ∀ z : Int32, z = cpI x y → Ex G Γ mu_In_compare 19 [some (.int x), some (.int y)] [.int z] [] 0 0 := by
    intro z hz
    subst hz
    exact ex_iret [] hG d_In_compare_19 rfl rfl (by decide) (by decide) (eg_sub.of rfl) ⟨rfl, rfl⟩
  refine ex_il d_In_compare_0 rfl ?_
  refine ex_il d_In_compare_1 rfl ?_
  refine ex_icmp_ge d_In_compare_2 (fun h2 => ?_) (fun h2 => ?_)
  · skip
    refine ex_il d_In_compare_9 rfl ?_
    refine ex_il d_In_compare_10 rfl ?_
    refine ex_icmp_ne d_In_compare_11 (fun h11 => ?_) (fun h11 => ?_)
    · skip
      refine ex_k d_In_compare_18 ?_
      exact J _ (by rw [cpI, if_neg (Int32.not_lt.mpr h2), if_neg h11])
    · skip
      refine ex_k d_In_compare_14 ?_
      refine ex_goto d_In_compare_15 ?_
      exact J _ (by rw [cpI, if_neg (Int32.not_lt.mpr h2), if_pos h11])
  · skip
    refine ex_k d_In_compare_5 ?_
    refine ex_goto d_In_compare_6 ?_
    exact J _ (by rw [cpI, if_pos (Int32.not_le.mp h2)])
set_option maxRecDepth 100000 in
theorem c_In_compareUnsigned (l : Launch) (G : eg_G) (x y : Int32) : Ct l G y_In_compareUnsigned 2 0 0 [.int x, .int y] [] (rF (some (.int (cuI x y))) []) := by
  refine Ct.of cd_In_compareUnsigned (eg_catb rfl) (Nat.le_of_ble_eq_true rfl) ?_
  intro Γ hG
  have hR := hG.rm
  show Ex G Γ mu_In_compareUnsigned 0 [some (.int x), some (.int y)] [] [] 0 0
  refine ex_il d_In_compareUnsigned_0 rfl ?_
  refine ex_k d_In_compareUnsigned_1 ?_
  refine ex_iadd d_In_compareUnsigned_3 ?_
  refine ex_il d_In_compareUnsigned_4 rfl ?_
  refine ex_k d_In_compareUnsigned_5 ?_
  refine ex_iadd d_In_compareUnsigned_7 ?_
  refine ex_cP hR (c_In_compare l G _ _) (eg_invS d_In_compareUnsigned_8 cd_In_compare cx_In_259 rfl rfl) cd_In_compare (Nat.le_of_ble_eq_true rfl) (by decide) (by decide) (by decide) (by decide) rfl ?_
  exact ex_iret [] hG d_In_compareUnsigned_11 rfl rfl (by decide) (by decide) (eg_sub.of rfl) ⟨rfl, rfl⟩
set_option maxRecDepth 100000 in
theorem c_Ma_isInside (l : Launch) (G : eg_G) (x n : Int32) : Ct l G y_Ma_isInside 1 0 0 [.int x, .int n] [] (rF (some (.int (bI (isI x n)))) []) := by
  refine Ct.of cd_Ma_isInside (eg_catb rfl) (Nat.le_of_ble_eq_true rfl) ?_
  intro Γ hG
  have hR := hG.rm
  show Ex G Γ mu_Ma_isInside 0 [some (.int x), some (.int n)] [] [] 0 0
  have J : ∀ z : Int32, z = bI (isI x n) → Ex G Γ mu_Ma_isInside 18 [some (.int x), some (.int n)] [.int z] [] 0 0 := by
    intro z hz
    subst hz
    exact ex_iret [] hG d_Ma_isInside_18 rfl (bI_n _) (by decide) (by decide) (eg_sub.of rfl) ⟨rfl, rfl⟩
  refine ex_il d_Ma_isInside_0 rfl ?_
  refine ex_if_lt d_Ma_isInside_1 (fun h1 => ?_) (fun h1 => ?_)
  · skip
    refine ex_k d_Ma_isInside_17 ?_
    exact J _ (by clear J hG hR; grind [bI, isI])
  · skip
    refine ex_il d_Ma_isInside_4 rfl ?_
    refine ex_k d_Ma_isInside_5 ?_
    refine ex_il d_Ma_isInside_8 rfl ?_
    refine ex_isub d_Ma_isInside_9 ?_
    refine ex_icmp_gt d_Ma_isInside_10 (fun h10 => ?_) (fun h10 => ?_)
    · skip
      refine ex_k d_Ma_isInside_17 ?_
      exact J _ (by clear J hG hR; grind [bI, isI])
    · skip
      refine ex_k d_Ma_isInside_13 ?_
      refine ex_goto d_Ma_isInside_14 ?_
      exact J _ (by clear J hG hR; grind [bI, isI])
set_option maxRecDepth 100000 in
theorem c_Ma_read (l : Launch) (G : eg_G) (a : Nat → Nat) (M : Nat → Int32) (P : Int32 → Bool) (R : Nat → Int32) (pc tr md : Int32) (hM : ∀ i, M i &&& 255 = M i) (ad s : Nat) (hs : s ≤ 4) (hb : ad + s ≤ 4096) : Ct l G y_Ma_read 1 0 0 [.ref (a 0), .int (nI ad), .int (nI s)] [MA G a M P R pc tr md] (rF (some (.int (rdJ M ad s s))) [MA G a M P R pc tr md]) := by
  refine Ct.of cd_Ma_read (eg_catb rfl) (Nat.le_of_ble_eq_true rfl) ?_
  intro Γ hG
  have hR := hG.rm
  show Ex G Γ mu_Ma_read 0 [some (.ref (a 0)), some (.int (nI ad)), some (.int (nI s)), none, none] [] [MA G a M P R pc tr md] 0 0
  refine ex_k d_Ma_read_0 ?_
  refine ex_is d_Ma_read_1 (Nat.le_of_ble_eq_true rfl) ?_
  refine ex_il d_Ma_read_2 rfl ?_
  refine ex_k d_Ma_read_3 ?_
  refine ex_isub d_Ma_read_4 ?_
  refine ex_is d_Ma_read_5 (Nat.le_of_ble_eq_true rfl) ?_
  have L : ∀ j, j ≤ s → Ex G Γ mu_Ma_read 7 [some (.ref (a 0)), some (.int (nI ad)), some (.int (nI s)), some (.int (rdJ M ad s j)), some (.int (nI (s - j) - 1))] [] [MA G a M P R pc tr md] 0 0 := by
    refine eg_down s (fun j hj ih => ?_)
    refine ex_il d_Ma_read_7 rfl ?_
    refine ex_if_lt d_Ma_read_9 (fun h9 => ?_) (fun h9 => ?_)
    · skip
      have hjs : j = s := by
        rcases Nat.lt_or_ge j s with z | z
        · refine absurd h9 ?_
          rw [show nI (s - j) - 1 = nI (s - j - 1) from by rw [show (1 : Int32) = nI 1 from rfl, pk_sub (by omega)]]
          exact nI_pos (by omega)
        · omega
      subst hjs
      refine ex_il d_Ma_read_37 rfl ?_
      exact ex_iret [MA G a M P R pc tr md] hG d_Ma_read_38 rfl rfl (by decide) (by decide) (eg_sub.of rfl) ⟨rfl, rfl⟩
    · skip
      have hlt : j < s := by
        rcases Nat.lt_or_ge j s with z | z
        · exact z
        · refine absurd ?_ h9
          rw [show s - j = 0 by omega]
          decide
      have e1 : nI (s - j) - 1 = nI (s - (j + 1)) := by rw [show (1 : Int32) = nI 1 from rfl, pk_sub (by omega), show s - j - 1 = s - (j + 1) by omega]
      refine ex_il d_Ma_read_12 rfl ?_
      refine ex_k d_Ma_read_13 ?_
      refine ex_ishl d_Ma_read_15 ?_
      refine ex_al d_Ma_read_16 rfl ?_
      refine mg 0 fl_Ma_9 d_Ma_read_17 rfl rfl ?_
      refine ex_il d_Ma_read_20 rfl ?_
      refine ex_il d_Ma_read_21 rfl ?_
      refine ex_iadd d_Ma_read_23 ?_
      refine ml_mem 0 d_Ma_read_24 rfl (ix_e (j := ad + (s - (j + 1))) (by omega) (by rw [e1]; exact nI_add _ _)) ?_
      refine ex_k d_Ma_read_25 ?_
      refine ex_iand d_Ma_read_28 ?_
      rw [bt_and M _ (hM _)]
      refine ex_ior d_Ma_read_29 ?_
      refine ex_is d_Ma_read_30 (Nat.le_of_ble_eq_true rfl) ?_
      refine ex_iinc d_Ma_read_31 rfl ?_
      refine ex_goto d_Ma_read_34 ?_
      exact ex_eqL [some (.ref (a 0)), some (.int (nI ad)), some (.int (nI s)), some (.int (rdJ M ad s (j + 1))), some (.int (nI (s - (j + 1)) - 1))] (by rw [show nI (s - (j + 1)) - 1 = nI (s - j) - 1 + Int32.ofInt (-1) from by rw [e1, Int32.sub_eq_add_neg]; rfl]; rfl) (ih hlt)
  exact L 0 (Nat.zero_le _)
set_option maxRecDepth 100000 in
theorem c_Ma_write (l : Launch) (G : eg_G) (a : Nat → Nat) (M : Nat → Int32) (P : Int32 → Bool) (R : Nat → Int32) (pc tr md : Int32) (ad s : Nat) (v : Int32) (hs : s ≤ 4) (hb : ad + s ≤ 4096) : Ct l G y_Ma_write 1 0 0 [.ref (a 0), .int (nI ad), .int (nI s), .int v] [MA G a M P R pc tr md] (rF none [MA G a (putB M ad v s) P R pc tr md]) := by
  refine Ct.of cd_Ma_write (eg_catb rfl) (Nat.le_of_ble_eq_true rfl) ?_
  intro Γ hG
  have hR := hG.rm
  show Ex G Γ mu_Ma_write 0 [some (.ref (a 0)), some (.int (nI ad)), some (.int (nI s)), some (.int v), none] [] [MA G a M P R pc tr md] 0 0
  refine ex_k d_Ma_write_0 ?_
  refine ex_is d_Ma_write_1 (Nat.le_of_ble_eq_true rfl) ?_
  have L : ∀ j, j ≤ s → Ex G Γ mu_Ma_write 3 [some (.ref (a 0)), some (.int (nI ad)), some (.int (nI s)), some (.int v), some (.int (nI j))] [] [MA G a (putB M ad v j) P R pc tr md] 0 0 := by
    refine eg_down s (fun j hj ih => ?_)
    refine ex_il d_Ma_write_3 rfl ?_
    refine ex_il d_Ma_write_5 rfl ?_
    refine ex_icmp_ge d_Ma_write_6 (fun h6 => ?_) (fun h6 => ?_)
    · skip
      have h6 := le_n (a := s) h6
      have hjs : j = s := by omega
      subst hjs
      exact ex_vret [MA G a (putB M ad v j) P R pc tr md] hG d_Ma_write_32 rfl (by decide) (by decide) (eg_sub.of rfl) ⟨rfl, rfl⟩
    · skip
      have hlt := lt_n (a := s) h6
      refine ex_al d_Ma_write_9 rfl ?_
      refine mg 0 fl_Ma_9 d_Ma_write_10 rfl rfl ?_
      refine ex_il d_Ma_write_13 rfl ?_
      refine ex_il d_Ma_write_14 rfl ?_
      refine ex_iadd d_Ma_write_16 ?_
      refine ex_il d_Ma_write_17 rfl ?_
      refine ex_k d_Ma_write_18 ?_
      refine ex_il d_Ma_write_20 rfl ?_
      refine ex_imul d_Ma_write_22 ?_
      refine ex_ishr d_Ma_write_23 ?_
      refine ex_i2b d_Ma_write_24 ?_
      refine ms_mem 0 d_Ma_write_25 rfl (ix_e (j := ad + j) (by omega) (nI_add _ _)) ?_
      refine ex_eqS [MA G a (putB M ad v (j + 1)) P R pc tr md] (by show [MA G a (upd (putB M ad v j) (ad + j) _) P R pc tr md] = _; rw [show putB M ad v (j + 1) = upd (putB M ad v j) (ad + j) (byK v j) from rfl, byK, ← pk_mul]; rfl) ?_
      refine ex_inc d_Ma_write_26 rfl ?_
      refine ex_goto d_Ma_write_29 ?_
      exact ih hlt
  exact L 0 (Nat.zero_le _)
set_option maxRecDepth 100000 in
theorem c_Ma_trap (l : Launch) (G : eg_G) (a : Nat → Nat) (M : Nat → Int32) (P : Int32 → Bool) (R : Nat → Int32) (pc tr md : Int32) (x : Int32) : Ct l G y_Ma_trap 6 1 6 [.ref (a 0), .int x] [MA G a M P R pc tr md] (rT x_UOE [MA G a M P R pc x md]) := by
  refine Ct.of cd_Ma_trap (eg_catb rfl) (Nat.le_of_ble_eq_true rfl) ?_
  intro Γ hG
  have hR := hG.rm
  show Ex G Γ mu_Ma_trap 0 [some (.ref (a 0)), some (.int x)] [] [MA G a M P R pc tr md] 0 0
  refine ex_al d_Ma_trap_0 rfl ?_
  refine ex_il d_Ma_trap_1 rfl ?_
  refine mp_trap 0 wl_Ma_49 d_Ma_trap_2 rfl ?_
  exact ex_thr [MA G a M P R pc x md] hG d_Ma_trap_5.1 d_Ma_trap_8.1 d_Ma_trap_9.1 d_Ma_trap_12.1 th_Ma_trap (fun _ h => absurd h List.not_mem_nil) (Nat.le_of_ble_eq_true rfl) (by decide) (by decide) (by decide) (eg_sub.of rfl) ⟨rfl, rfl⟩
theorem acI_s {x : Int32} {s : Nat} (hs : s = 1 ∨ s = 2 ∨ s = 4) (h1 : x - x / nI s * nI s = 0) (h2 : isI x (nI s) = true) : acI x (nI s) = 0 := by
  simp only [isI, Bool.and_eq_true, decide_eq_true_eq] at h2
  obtain ⟨j, hj, rfl⟩ := nI_of (x := x) (Int32.not_lt.mpr h2.1)
  have h3 := h2.2
  rw [show (4096 : Int32) - nI s = nI (4096 - s) from by rw [show (4096 : Int32) = nI 4096 from rfl, pk_sub (by omega)], nI_leI hj (by omega)] at h3
  rw [acI, if_pos h1, if_neg]
  rintro (z | z)
  · exact nI_pos hj z
  · rw [show (4096 : Int32) = nI 4096 from rfl, nI_leI (by decide) hj] at z
    omega
theorem acI_5 {x : Int32} {s : Nat} (hs : s = 1 ∨ s = 2 ∨ s = 4) (h1 : x - x / nI s * nI s = 0) (h2 : isI x (nI s) = false) : acI x (nI s) = 5 := by
  rw [acI, if_pos h1]
  by_cases h : x < 0 ∨ 4096 ≤ x
  · exact if_pos h
  · exfalso
    obtain ⟨j, hj, rfl⟩ := nI_of (x := x) (fun z => h (Or.inl z))
    have h3 : ¬ 4096 ≤ j := fun z => h (Or.inr ((nI_leI (a := 4096) (by decide) hj).mpr z))
    rw [pk_rem hj (by omega) (by omega)] at h1
    have h4 : j % s = 0 := (nI_eq (a := j % s) (b := 0) (by have := Nat.mod_lt j (show 0 < s by omega); omega) (by decide)).mp h1
    have h5 : j ≤ 4096 - s := by rcases hs with rfl | rfl | rfl <;> omega
    have : isI (nI j) (nI s) = true := by
      simp only [isI, Bool.and_eq_true, decide_eq_true_eq]
      refine ⟨nI_pos' hj, ?_⟩
      rw [show (4096 : Int32) - nI s = nI (4096 - s) from by rw [show (4096 : Int32) = nI 4096 from rfl, pk_sub (by omega)], nI_leI hj (by omega)]
      exact h5
    rw [this] at h2
    cases h2
set_option maxRecDepth 100000 in
theorem c_Ma_check (l : Launch) (G : eg_G) (a : Nat → Nat) (M : Nat → Int32) (P : Int32 → Bool) (R : Nat → Int32) (pc tr md : Int32) (x : Int32) (s : Nat) (hs : s = 1 ∨ s = 2 ∨ s = 4) : Ct l G y_Ma_check 7 1 6 [.ref (a 0), .int x, .int (nI s)] [MA G a M P R pc tr md] (rC (acI x (nI s) = 0) none [MA G a M P R pc tr md] x_UOE [MA G a M P R pc (acI x (nI s)) md]) := by
  refine Ct.of cd_Ma_check (eg_catb rfl) (Nat.le_of_ble_eq_true rfl) ?_
  intro Γ hG
  have hR := hG.rm
  show Ex G Γ mu_Ma_check 0 [some (.ref (a 0)), some (.int x), some (.int (nI s))] [] [MA G a M P R pc tr md] 0 0
  refine ex_il d_Ma_check_0 rfl ?_
  refine ex_il d_Ma_check_1 rfl ?_
  refine ex_k d_Ma_check_2 ?_
  refine ex_isub d_Ma_check_3 ?_
  refine ex_iand d_Ma_check_4 ?_
  refine ex_if_eq d_Ma_check_5 (fun h5 => ?_) (fun h5 => ?_)
  · skip
    have h5 := (and_rem hs).mp h5
    refine ex_il d_Ma_check_13 rfl ?_
    refine ex_il d_Ma_check_14 rfl ?_
    refine ex_cP hR (c_Ma_isInside l G _ _) (eg_invS d_Ma_check_15 cd_Ma_isInside cx_Ma_59 rfl rfl) cd_Ma_isInside (Nat.le_of_ble_eq_true rfl) (by decide) (by decide) (by decide) (by decide) rfl ?_
    refine ex_if_ne d_Ma_check_18 (fun h18 => ?_) (fun h18 => ?_)
    · skip
      have h18 : isI x (nI s) = true := by cases hb : isI x (nI s); exact absurd (bI_0.mpr hb) h18; rfl
      have hac := acI_s hs h5 h18
      exact ex_vret [MA G a M P R pc tr md] hG d_Ma_check_26 rfl (by decide) (by decide) (eg_sub.of rfl) (Or.inl ⟨hac, rfl, rfl⟩)
    · skip
      have hac := acI_5 hs h5 (bI_0.mp h18)
      refine ex_al d_Ma_check_21 rfl ?_
      refine ex_k d_Ma_check_22 ?_
      refine ex_cT [0] hR (c_Ma_trap l G a M P R pc tr md 5) (eg_invV 0 d_Ma_check_23 cd_Ma_trap cx_Ma_56 rfl rfl List.mem_cons_self rfl rfl) cd_Ma_trap rfl rfl (Nat.le_of_ble_eq_true rfl) (by decide) (by decide) (by decide) (by decide) ?_
      exact ext_leave [MA G a M P R pc 5 md] hG (fun _ h => absurd h List.not_mem_nil) (by decide) (by decide) (eg_sub.of rfl) (Or.inr ⟨by rw [hac]; decide, rfl, by rw [hac]⟩)
  · skip
    have h5 : ¬ x - x / nI s * nI s = 0 := fun z => h5 ((and_rem hs).mpr z)
    have hac : acI x (nI s) = 4 := by rw [acI, if_neg h5]
    refine ex_al d_Ma_check_8 rfl ?_
    refine ex_k d_Ma_check_9 ?_
    refine ex_cT [0] hR (c_Ma_trap l G a M P R pc tr md 4) (eg_invV 0 d_Ma_check_10 cd_Ma_trap cx_Ma_56 rfl rfl List.mem_cons_self rfl rfl) cd_Ma_trap rfl rfl (Nat.le_of_ble_eq_true rfl) (by decide) (by decide) (by decide) (by decide) ?_
    exact ext_leave [MA G a M P R pc 4 md] hG (fun _ h => absurd h List.not_mem_nil) (by decide) (by decide) (eg_sub.of rfl) (Or.inr ⟨by rw [hac]; decide, rfl, by rw [hac]⟩)
set_option maxRecDepth 100000 in
theorem c_Ma_load (l : Launch) (G : eg_G) (a : Nat → Nat) (M : Nat → Int32) (P : Int32 → Bool) (R : Nat → Int32) (pc tr md : Int32) (hM : ∀ i, M i &&& 255 = M i) (x : Int32) (s : Nat) (hs : s = 1 ∨ s = 2 ∨ s = 4) : Ct l G y_Ma_load 8 1 6 [.ref (a 0), .int x, .int (nI s)] [MA G a M P R pc tr md] (rC (acI x (nI s) = 0) (some (.int (ldV M (nI s) x.toNatClampNeg))) [MA G a M P R pc tr md] x_UOE [MA G a M P R pc (acI x (nI s)) md]) := by
  refine Ct.of cd_Ma_load (eg_catb rfl) (Nat.le_of_ble_eq_true rfl) ?_
  intro Γ hG
  have hR := hG.rm
  show Ex G Γ mu_Ma_load 0 [some (.ref (a 0)), some (.int x), some (.int (nI s))] [] [MA G a M P R pc tr md] 0 0
  refine ex_al d_Ma_load_0 rfl ?_
  refine ex_il d_Ma_load_1 rfl ?_
  refine ex_il d_Ma_load_2 rfl ?_
  refine ex_cCV [0] hR (c_Ma_check l G a M P R pc tr md x s hs) (eg_invV 0 d_Ma_load_3 cd_Ma_check cx_Ma_63 rfl rfl List.mem_cons_self rfl rfl) cd_Ma_check rfl rfl (Nat.le_of_ble_eq_true rfl) (by decide) (by decide) (by decide) (by decide) rfl (fun hc3 => ?_) (fun hc3 => ?_)
  rotate_left
  · skip
    exact ext_leave [MA G a M P R pc (acI x (nI s)) md] hG (fun _ h => absurd h List.not_mem_nil) (by decide) (by decide) (eg_sub.of rfl) (Or.inr ⟨hc3, rfl, rfl⟩)
  obtain ⟨j, hj, rfl, hjm⟩ := acI_0 (n := s) (by omega) (by omega) hc3
  have hj2 : j + s ≤ 4096 := by rcases hs with rfl | rfl | rfl <;> omega
  have hv : rdJ M j s s = ldV M (nI s) (nI j).toNatClampNeg := by
    rw [nI_clamp (by omega)]
    rcases hs with rfl | rfl | rfl
    · exact rdJ_1 M j
    · exact rdJ_2 M j
    · exact rdJ_4 M j
  refine ex_al d_Ma_load_6 rfl ?_
  refine ex_il d_Ma_load_7 rfl ?_
  refine ex_il d_Ma_load_8 rfl ?_
  refine ex_cF [0] hR (c_Ma_read l G a M P R pc tr md hM j s (by omega) hj2) (eg_invV 0 d_Ma_load_9 cd_Ma_read cx_Ma_67 rfl rfl List.mem_cons_self rfl rfl) cd_Ma_read rfl rfl (Nat.le_of_ble_eq_true rfl) (by decide) (by decide) (by decide) (by decide) rfl ?_
  exact ex_iret [MA G a M P R pc tr md] hG d_Ma_load_12 rfl rfl (by decide) (by decide) (eg_sub.of rfl) (Or.inl ⟨hc3, by rw [hv], rfl⟩)
set_option maxRecDepth 100000 in
theorem c_Ma_store (l : Launch) (G : eg_G) (a : Nat → Nat) (M : Nat → Int32) (P : Int32 → Bool) (R : Nat → Int32) (pc tr md : Int32) (x v : Int32) (s : Nat) (hs : s = 1 ∨ s = 2 ∨ s = 4) : Ct l G y_Ma_store 8 2 12 [.ref (a 0), .int x, .int (nI s), .int v] [MA G a M P R pc tr md] (rC (acI x (nI s) = 0 ∧ rany (fun j => P (x + nI j)) s = false) none [MA G a (putB M x.toNatClampNeg v s) P R pc tr md] x_UOE [MA G a M P R pc (if acI x (nI s) = 0 then 6 else acI x (nI s)) md]) := by
  refine Ct.of cd_Ma_store (eg_catb rfl) (Nat.le_of_ble_eq_true rfl) ?_
  intro Γ hG
  have hR := hG.rm
  show Ex G Γ mu_Ma_store 0 [some (.ref (a 0)), some (.int x), some (.int (nI s)), some (.int v), none] [] [MA G a M P R pc tr md] 0 0
  refine ex_al d_Ma_store_0 rfl ?_
  refine ex_il d_Ma_store_1 rfl ?_
  refine ex_il d_Ma_store_2 rfl ?_
  refine ex_cCV [0] hR (c_Ma_check l G a M P R pc tr md x s hs) (eg_invV 0 d_Ma_store_3 cd_Ma_check cx_Ma_63 rfl rfl List.mem_cons_self rfl rfl) cd_Ma_check rfl rfl (Nat.le_of_ble_eq_true rfl) (by decide) (by decide) (by decide) (by decide) rfl (fun hc3 => ?_) (fun hc3 => ?_)
  rotate_left
  · skip
    exact ext_leave [MA G a M P R pc (acI x (nI s)) md] hG (fun _ h => absurd h List.not_mem_nil) (by decide) (by decide) (eg_sub.of rfl) (Or.inr ⟨fun z => hc3 z.1, rfl, by rw [if_neg hc3]⟩)
  obtain ⟨ad, hj, rfl, hjm⟩ := acI_0 (n := s) (by omega) (by omega) hc3
  have hj2 : ad + s ≤ 4096 := by rcases hs with rfl | rfl | rfl <;> omega
  refine ex_k d_Ma_store_6 ?_
  refine ex_is d_Ma_store_7 (Nat.le_of_ble_eq_true rfl) ?_
  have L : ∀ j, j ≤ s → rany (fun j => P (nI ad + nI j)) j = false → Ex G Γ mu_Ma_store 9 [some (.ref (a 0)), some (.int (nI ad)), some (.int (nI s)), some (.int v), some (.int (nI j))] [] [MA G a M P R pc tr md] 1 6 := by
    refine eg_down s (fun j hj ih hno => ?_)
    refine ex_il d_Ma_store_9 rfl ?_
    refine ex_il d_Ma_store_11 rfl ?_
    refine ex_icmp_ge d_Ma_store_12 (fun h12 => ?_) (fun h12 => ?_)
    · skip
      have h12 := le_n (a := s) h12
      have hjs : j = s := by omega
      subst hjs
      refine ex_al d_Ma_store_39 rfl ?_
      refine ex_il d_Ma_store_40 rfl ?_
      refine ex_il d_Ma_store_41 rfl ?_
      refine ex_il d_Ma_store_42 rfl ?_
      refine ex_cV [0] hR (c_Ma_write l G a M P R pc tr md ad j v (by omega) hj2) (eg_invV 0 d_Ma_store_43 cd_Ma_write cx_Ma_71 rfl rfl List.mem_cons_self rfl rfl) cd_Ma_write rfl rfl (Nat.le_of_ble_eq_true rfl) (by decide) (by decide) (by decide) (by decide) rfl ?_
      exact ex_vret [MA G a (putB M ad v j) P R pc tr md] hG d_Ma_store_46 rfl (by decide) (by decide) (eg_sub.of rfl) (Or.inl ⟨⟨hc3, hno⟩, rfl, by rw [nI_clamp (by omega)]⟩)
    · skip
      have hlt := lt_n (a := s) h12
      refine ex_al d_Ma_store_15 rfl ?_
      refine mg 0 fl_Ma_15 d_Ma_store_16 rfl rfl ?_
      refine ex_il d_Ma_store_19 rfl ?_
      refine ex_il d_Ma_store_20 rfl ?_
      refine ex_iadd d_Ma_store_22 ?_
      refine ml_shut 0 d_Ma_store_23 rfl (ix_e (j := ad + j) (by omega) (nI_add _ _)) (by omega) ?_
      refine ex_if_eq d_Ma_store_24 (fun h24 => ?_) (fun h24 => ?_)
      · skip
        have h24 := bI_0.mp h24
        refine ex_inc d_Ma_store_33 rfl ?_
        refine ex_goto d_Ma_store_36 ?_
        exact ih hlt (by rw [rany_s, hno, nI_add, h24]; rfl)
      · skip
        have h24 : P (nI (ad + j)) = true := by cases hb : P (nI (ad + j)); exact absurd (bI_0.mpr hb) h24; rfl
        refine ex_al d_Ma_store_27 rfl ?_
        refine ex_k d_Ma_store_28 ?_
        refine ex_cT [0] hR (c_Ma_trap l G a M P R pc tr md 6) (eg_invV 0 d_Ma_store_30 cd_Ma_trap cx_Ma_56 rfl rfl List.mem_cons_self rfl rfl) cd_Ma_trap rfl rfl (Nat.le_of_ble_eq_true rfl) (by decide) (by decide) (by decide) (by decide) ?_
        exact ext_leave [MA G a M P R pc 6 md] hG (fun _ h => absurd h List.not_mem_nil) (by decide) (by decide) (eg_sub.of rfl) (Or.inr ⟨fun z => absurd ((rany_iff (p := fun j => P (nI ad + nI j)) (n := s)).mpr ⟨j, hlt, by show P (nI ad + nI j) = true; rw [nI_add]; exact h24⟩) (by rw [z.2]; decide), rfl, by rw [if_pos hc3]⟩)
  exact L 0 (Nat.zero_le _) rfl
theorem r0_0 {R : Nat → Int32} (h : R 0 = 0) {v : Int32} : r0 (upd R 0 v) = R := funext fun i => by
  show (if i = 0 then 0 else if i = 0 then v else R i) = R i
  by_cases z : i = 0
  · rw [if_pos z, z, h]
  · rw [if_neg z, if_neg z]
theorem r0_n {R : Nat → Int32} (h : R 0 = 0) {v : Int32} {n : Nat} (hn : ¬ n = 0) : r0 (upd R n v) = upd R n v := funext fun i => by
  show (if i = 0 then 0 else if i = n then v else R i) = if i = n then v else R i
  by_cases z : i = 0
  · rw [if_pos z, z, if_neg (fun e => hn e.symm), h]
  · rw [if_neg z]
theorem r0_id {R : Nat → Int32} (h : R 0 = 0) : r0 R = R := funext fun i => by
  show (if i = 0 then 0 else R i) = R i
  by_cases z : i = 0
  · rw [if_pos z, z, h]
  · rw [if_neg z]
set_option maxRecDepth 100000 in
theorem c_Ma_set (l : Launch) (G : eg_G) (a : Nat → Nat) (M : Nat → Int32) (P : Int32 → Bool) (R : Nat → Int32) (pc tr md : Int32) (r v : Int32) (rn : Nat) (hr : ix r rn 32) (hR0 : R 0 = 0) : Ct l G y_Ma_set 1 0 0 [.ref (a 0), .int r, .int v] [MA G a M P R pc tr md] (rF none [MA G a M P (r0 (upd R rn v)) pc tr md]) := by
  refine Ct.of cd_Ma_set (eg_catb rfl) (Nat.le_of_ble_eq_true rfl) ?_
  intro Γ hG
  have hR := hG.rm
  show Ex G Γ mu_Ma_set 0 [some (.ref (a 0)), some (.int r), some (.int v)] [] [MA G a M P R pc tr md] 0 0
  refine ex_il d_Ma_set_0 rfl ?_
  refine ex_if_eq d_Ma_set_1 (fun h1 => ?_) (fun h1 => ?_)
  · skip
    have h1 : r = 0 := h1
    have hrn : rn = 0 := by rw [← hr.1, h1]; rfl
    exact ex_vret [MA G a M P R pc tr md] hG d_Ma_set_11 rfl (by decide) (by decide) (eg_sub.of rfl) ⟨rfl, by rw [hrn, r0_0 hR0]⟩
  · skip
    have hrn : ¬ rn = 0 := fun z => h1 (by
      have e := hr.1
      rw [z] at e
      obtain ⟨j, hj, rfl⟩ := nI_of (x := r) (fun y => hr.2 (Or.inl y))
      rw [nI_clamp hj] at e
      rw [e]; rfl)
    refine ex_al d_Ma_set_4 rfl ?_
    refine mg 0 fl_Ma_19 d_Ma_set_5 rfl rfl ?_
    refine ex_il d_Ma_set_8 rfl ?_
    refine ex_il d_Ma_set_9 rfl ?_
    refine ms_reg 0 d_Ma_set_10 rfl hr ?_
    exact ex_vret [MA G a M P (upd R rn v) pc tr md] hG d_Ma_set_11 rfl (by decide) (by decide) (eg_sub.of rfl) ⟨rfl, by rw [r0_n hR0 hrn]⟩
