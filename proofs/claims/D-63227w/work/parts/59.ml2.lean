/-! THE LOADER, 2: its object; f: the twin's numbers -/
def LOl (r : Nat → Nat) (f : Nat → Int32) : List Value := [.ref (r 0), .ref (r 1), .ref (r 2), .ref (r 3), .ref (r 4), .int (f 15), .int (f 17), .int (f 18), .int (f 19), .int (f 20), .int (f 21), .int (f 2)]
def LO (x : Nat) (r : Nat → Nat) (f : Nat → Int32) : va_W := [(x, .inr (0, LOl r f))]
section LOP
variable {G : eg_G} {Γ : eg_C} {μ : eg_M} {pc nx n k idx x : Nat} {lv : List (Option Value)} {rest : List Value} {S : eg_S} {r : Nat → Nat} {f : Nat → Int32} {v : Int32}
theorem lg (kS : Nat) {j : Nat} {w : Value} (hf : fx μ.1 idx 0 j) (hd : dx μ pc (.getfield idx) 3 nx) (hk : S[kS]? = some (LO x r f)) (hv : (LOl r f)[j]? = some w) (kk : Ex G Γ μ nx lv (w :: rest) S n k) : Ex G Γ μ pc lv (.ref x :: rest) S n k := ex_get kS hf hd hk List.mem_cons_self hv kk
theorem lp_15 (kS : Nat) (hf : wx μ.1 μ.2.2.2.1 idx 0 5 .int) (hd : dx μ pc (.putfield idx) 3 nx) (hk : S[kS]? = some (LO x r f)) (kk : Ex G Γ μ nx lv rest (S.set kS (LO x r (va_up f 15 v))) n k) : Ex G Γ μ pc lv (.int v :: .ref x :: rest) S n k := ex_putp kS 0 hf hd hk rfl rfl rfl (Nat.le_of_ble_eq_true rfl) (ex_eqS _ (by rfl) kk)
theorem lp_17 (kS : Nat) (hf : wx μ.1 μ.2.2.2.1 idx 0 6 .int) (hd : dx μ pc (.putfield idx) 3 nx) (hk : S[kS]? = some (LO x r f)) (kk : Ex G Γ μ nx lv rest (S.set kS (LO x r (va_up f 17 v))) n k) : Ex G Γ μ pc lv (.int v :: .ref x :: rest) S n k := ex_putp kS 0 hf hd hk rfl rfl rfl (Nat.le_of_ble_eq_true rfl) (ex_eqS _ (by rfl) kk)
theorem lp_18 (kS : Nat) (hf : wx μ.1 μ.2.2.2.1 idx 0 7 .int) (hd : dx μ pc (.putfield idx) 3 nx) (hk : S[kS]? = some (LO x r f)) (kk : Ex G Γ μ nx lv rest (S.set kS (LO x r (va_up f 18 v))) n k) : Ex G Γ μ pc lv (.int v :: .ref x :: rest) S n k := ex_putp kS 0 hf hd hk rfl rfl rfl (Nat.le_of_ble_eq_true rfl) (ex_eqS _ (by rfl) kk)
theorem lp_19 (kS : Nat) (hf : wx μ.1 μ.2.2.2.1 idx 0 8 .int) (hd : dx μ pc (.putfield idx) 3 nx) (hk : S[kS]? = some (LO x r f)) (kk : Ex G Γ μ nx lv rest (S.set kS (LO x r (va_up f 19 v))) n k) : Ex G Γ μ pc lv (.int v :: .ref x :: rest) S n k := ex_putp kS 0 hf hd hk rfl rfl rfl (Nat.le_of_ble_eq_true rfl) (ex_eqS _ (by rfl) kk)
theorem lp_20 (kS : Nat) (hf : wx μ.1 μ.2.2.2.1 idx 0 9 .int) (hd : dx μ pc (.putfield idx) 3 nx) (hk : S[kS]? = some (LO x r f)) (kk : Ex G Γ μ nx lv rest (S.set kS (LO x r (va_up f 20 v))) n k) : Ex G Γ μ pc lv (.int v :: .ref x :: rest) S n k := ex_putp kS 0 hf hd hk rfl rfl rfl (Nat.le_of_ble_eq_true rfl) (ex_eqS _ (by rfl) kk)
theorem lp_21 (kS : Nat) (hf : wx μ.1 μ.2.2.2.1 idx 0 10 .int) (hd : dx μ pc (.putfield idx) 3 nx) (hk : S[kS]? = some (LO x r f)) (kk : Ex G Γ μ nx lv rest (S.set kS (LO x r (va_up f 21 v))) n k) : Ex G Γ μ pc lv (.int v :: .ref x :: rest) S n k := ex_putp kS 0 hf hd hk rfl rfl rfl (Nat.le_of_ble_eq_true rfl) (ex_eqS _ (by rfl) kk)
theorem lp_2 (kS : Nat) {b : Bool} (hf : wx μ.1 μ.2.2.2.1 idx 0 11 .boolean) (hd : dx μ pc (.putfield idx) 3 nx) (hk : S[kS]? = some (LO x r f)) (kk : Ex G Γ μ nx lv rest (S.set kS (LO x r (va_up f 2 (bI b)))) n k) : Ex G Γ μ pc lv (.int (bI b) :: .ref x :: rest) S n k := ex_putp kS 0 hf hd hk rfl (bI_n b) (bI_f b) (Nat.le_of_ble_eq_true rfl) (ex_eqS _ (by rfl) kk)
end LOP
set_option maxRecDepth 100000 in
theorem c_ML_begin (l : Launch) (G : eg_G) (x : Nat) (r : Nat → Nat) (f : Nat → Int32) : Ct l G y_ML_begin 1 0 0 [.ref x] [LO x r f] (rF none [LO x r (frF f)]) := by
  refine Ct.of cd_ML_begin (eg_catb rfl) (Nat.le_of_ble_eq_true rfl) ?_
  intro Γ hG
  have hR := hG.rm
  show Ex G Γ mu_ML_begin 0 [some (.ref x)] [] [LO x r f] 0 0
  refine ex_al d_ML_begin_0 rfl ?_
  refine ex_k d_ML_begin_1 ?_
  refine lp_17 0 wl_ML_102 d_ML_begin_2 rfl ?_
  refine ex_al d_ML_begin_5 rfl ?_
  refine ex_k d_ML_begin_6 ?_
  refine lp_18 0 wl_ML_40 d_ML_begin_7 rfl ?_
  refine ex_al d_ML_begin_10 rfl ?_
  refine ex_k d_ML_begin_11 ?_
  refine lp_19 0 wl_ML_105 d_ML_begin_12 rfl ?_
  refine ex_al d_ML_begin_15 rfl ?_
  refine ex_k d_ML_begin_16 ?_
  refine lp_20 0 wl_ML_108 d_ML_begin_17 rfl ?_
  refine ex_al d_ML_begin_20 rfl ?_
  refine ex_k d_ML_begin_21 ?_
  refine lp_21 0 wl_ML_111 d_ML_begin_22 rfl ?_
  exact ex_vret [LO x r (frF f)] hG d_ML_begin_25 rfl (by decide) (by decide) (eg_sub.of rfl) ⟨rfl, rfl⟩
set_option maxRecDepth 100000 in
theorem c_ML_fails (l : Launch) (G : eg_G) (x : Nat) (r : Nat → Nat) (f : Nat → Int32) (b : Bool) (u v : Int32) : Ct l G y_ML_fails 1 0 0 [.ref x, .int (bI b), .int u, .int v] [LO x r f] (rF (some (.int (bI b))) [LO x r (if b = true then va_up (va_up f 17 u) 18 v else f)]) := by
  refine Ct.of cd_ML_fails (eg_catb rfl) (Nat.le_of_ble_eq_true rfl) ?_
  intro Γ hG
  have hR := hG.rm
  show Ex G Γ mu_ML_fails 0 [some (.ref x), some (.int (bI b)), some (.int u), some (.int v)] [] [LO x r f] 0 0
  refine ex_il d_ML_fails_0 rfl ?_
  refine ex_if_ne d_ML_fails_1 (fun h1 => ?_) (fun h1 => ?_)
  · skip
    have hb : b = true := by cases b; exact absurd rfl h1; rfl
    subst hb
    refine ex_al d_ML_fails_6 rfl ?_
    refine ex_il d_ML_fails_7 rfl ?_
    refine lp_17 0 wl_ML_102 d_ML_fails_8 rfl ?_
    refine ex_al d_ML_fails_11 rfl ?_
    refine ex_il d_ML_fails_12 rfl ?_
    refine lp_18 0 wl_ML_40 d_ML_fails_13 rfl ?_
    refine ex_k d_ML_fails_16 ?_
    exact ex_iret [LO x r (va_up (va_up f 17 u) 18 v)] hG d_ML_fails_17 rfl rfl (by decide) (by decide) (eg_sub.of rfl) ⟨rfl, rfl⟩
  · skip
    have hb : b = false := bI_0.mp h1
    subst hb
    refine ex_k d_ML_fails_4 ?_
    exact ex_iret [LO x r f] hG d_ML_fails_5 rfl rfl (by decide) (by decide) (eg_sub.of rfl) ⟨rfl, rfl⟩
set_option maxRecDepth 100000 in
theorem c_ML_fault (l : Launch) (G : eg_G) (x : Nat) (r : Nat → Nat) (f : Nat → Int32) (w : Int32) : Ct l G y_ML_fault 1 0 0 [.ref x, .int w] [LO x r f] (rF (some (.int (fltI f w))) [LO x r f]) := by
  refine Ct.of cd_ML_fault (eg_catb rfl) (Nat.le_of_ble_eq_true rfl) ?_
  intro Γ hG
  have hR := hG.rm
  show Ex G Γ mu_ML_fault 0 [some (.ref x), some (.int w)] [] [LO x r f] 0 0
  refine ex_il d_ML_fault_0 rfl ?_
  by_cases e1_0 : w = 0
  · skip
    refine ex_eqT (.int 0 :: _) (by rw [e1_0]) ?_
    refine ex_tabIn (tgt := 36) d_ML_fault_1 (by decide) (by decide) (by rfl) (by decide) ?_
    refine ex_al d_ML_fault_36 rfl ?_
    refine lg 0 fl_ML_102 d_ML_fault_37 rfl rfl ?_
    exact ex_iret [LO x r f] hG d_ML_fault_40 rfl rfl (by decide) (by decide) (eg_sub.of rfl) ⟨by rw [e1_0]; rfl, rfl⟩
  by_cases e1_1 : w = 1
  · skip
    refine ex_eqT (.int 1 :: _) (by rw [e1_1]) ?_
    refine ex_tabIn (tgt := 41) d_ML_fault_1 (by decide) (by decide) (by rfl) (by decide) ?_
    refine ex_al d_ML_fault_41 rfl ?_
    refine lg 0 fl_ML_40 d_ML_fault_42 rfl rfl ?_
    exact ex_iret [LO x r f] hG d_ML_fault_45 rfl rfl (by decide) (by decide) (eg_sub.of rfl) ⟨by rw [e1_1]; rfl, rfl⟩
  by_cases e1_2 : w = 2
  · skip
    refine ex_eqT (.int 2 :: _) (by rw [e1_2]) ?_
    refine ex_tabIn (tgt := 46) d_ML_fault_1 (by decide) (by decide) (by rfl) (by decide) ?_
    refine ex_al d_ML_fault_46 rfl ?_
    refine lg 0 fl_ML_105 d_ML_fault_47 rfl rfl ?_
    exact ex_iret [LO x r f] hG d_ML_fault_50 rfl rfl (by decide) (by decide) (eg_sub.of rfl) ⟨by rw [e1_2]; rfl, rfl⟩
  by_cases e1_3 : w = 3
  · skip
    refine ex_eqT (.int 3 :: _) (by rw [e1_3]) ?_
    refine ex_tabIn (tgt := 51) d_ML_fault_1 (by decide) (by decide) (by rfl) (by decide) ?_
    refine ex_al d_ML_fault_51 rfl ?_
    refine lg 0 fl_ML_108 d_ML_fault_52 rfl rfl ?_
    exact ex_iret [LO x r f] hG d_ML_fault_55 rfl rfl (by decide) (by decide) (eg_sub.of rfl) ⟨by rw [e1_3]; rfl, rfl⟩
  by_cases e1_4 : w = 4
  · skip
    refine ex_eqT (.int 4 :: _) (by rw [e1_4]) ?_
    refine ex_tabIn (tgt := 56) d_ML_fault_1 (by decide) (by decide) (by rfl) (by decide) ?_
    refine ex_al d_ML_fault_56 rfl ?_
    refine lg 0 fl_ML_111 d_ML_fault_57 rfl rfl ?_
    exact ex_iret [LO x r f] hG d_ML_fault_60 rfl rfl (by decide) (by decide) (eg_sub.of rfl) ⟨by rw [e1_4]; rfl, rfl⟩
  refine ex_tabOut (tgt := 61) d_ML_fault_1 (by have a0 := ne_t (k := 0) (by decide) e1_0; have a1 := ne_t (k := 1) (by decide) e1_1; have a2 := ne_t (k := 2) (by decide) e1_2; have a3 := ne_t (k := 3) (by decide) e1_3; have a4 := ne_t (k := 4) (by decide) e1_4; omega) (by decide) ?_
  refine ex_k d_ML_fault_61 ?_
  exact ex_iret [LO x r f] hG d_ML_fault_62 rfl rfl (by decide) (by decide) (eg_sub.of rfl) ⟨by rw [fltI, if_neg e1_0, if_neg e1_1, if_neg e1_2, if_neg e1_3, if_neg e1_4], rfl⟩
