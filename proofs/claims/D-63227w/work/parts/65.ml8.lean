/-! THE LOADER, 8: rows -/
def RW (G : eg_G) (rw : Nat) (F : Nat → Option Nat) : va_W := [(rw, .inl (eg_c G 6, 208, .inr (.inr (.inr (.inr F)))))]
def fre (F : Nat → Option Nat) (k : Nat) : Bool := decide (F k = none)
def rmI (F : Nat → Option Nat) (n : Nat) : Int32 := match rwF (fre F) n 208 with
  | some k => nI (k + 1 - n)
  | none => -1
set_option maxRecDepth 100000 in
theorem c_ML_room (l : Launch) (G : eg_G) (x : Nat) (r : Nat → Nat) (f : Nat → Int32) (F : Nat → Option Nat) (B : Nat) (hB : 0 < B) (hB2 : B < 1000) : Ct l G y_ML_room 1 0 0 [.ref x, .int (nI B)] [LO x r f, RW G (r 3) F] (rF (some (.int (rmI F ((B + 15) / 16)))) [LO x r f, RW G (r 3) F]) := by
  refine Ct.of cd_ML_room (eg_catb rfl) (Nat.le_of_ble_eq_true rfl) ?_
  intro Γ hG
  have hR := hG.rm
  show Ex G Γ mu_ML_room 0 [some (.ref x), some (.int (nI B)), none, none, none] [] [LO x r f, RW G (r 3) F] 0 0
  refine ex_il d_ML_room_0 rfl ?_
  refine ex_k d_ML_room_1 ?_
  refine ex_iadd d_ML_room_3 ?_
  refine ex_k d_ML_room_4 ?_
  refine ex_isub d_ML_room_5 ?_
  refine ex_k d_ML_room_6 ?_
  refine ex_idiv d_ML_room_8 (by decide) ?_
  refine ex_eqT [.int (nI ((B + 15) / 16))] (by show [Value.int ((nI B + nI 16 - nI 1) / nI 16)] = _; rw [nI_add, pk_sub (by omega), show B + 16 - 1 = B + 15 by omega, pk_div (by omega) (by decide) (by decide)]) ?_
  refine ex_is d_ML_room_9 (Nat.le_of_ble_eq_true rfl) ?_
  refine ex_k d_ML_room_10 ?_
  refine ex_is d_ML_room_11 (Nat.le_of_ble_eq_true rfl) ?_
  refine ex_k d_ML_room_12 ?_
  refine ex_is d_ML_room_13 (Nat.le_of_ble_eq_true rfl) ?_
  have L : ∀ j, j ≤ 208 → (∀ i, i < j → decide (rwC (fre F) (i + 1) = (B + 15) / 16) = false) → Ex G Γ mu_ML_room 15 [some (.ref x), some (.int (nI B)), some (.int (nI ((B + 15) / 16))), some (.int (nI (rwC (fre F) j))), some (.int (nI j))] [] [LO x r f, RW G (r 3) F] 0 0 := by
    refine eg_down 208 (fun j hj ih hno => ?_)
    have hc := rwC_le (fre F) j
    refine ex_il d_ML_room_15 rfl ?_
    refine ex_k d_ML_room_17 ?_
    refine ex_icmp_ge d_ML_room_20 (fun h20 => ?_) (fun h20 => ?_)
    · skip
      have h20 := le_n (a := 208) h20
      have hj4 : j = 208 := by omega
      subst hj4
      refine ex_k d_ML_room_59 ?_
      exact ex_iret [LO x r f, RW G (r 3) F] hG d_ML_room_60 rfl rfl (by decide) (by decide) (eg_sub.of rfl) ⟨by rw [rmI, rwF, tfind_none hno], rfl⟩
    · skip
      have hlt := lt_n (a := 208) h20
      have hc1 := rwC_le (fre F) (j + 1)
      have J3 : ∀ z : Int32, z = nI (rwC (fre F) (j + 1)) → Ex G Γ mu_ML_room 40 [some (.ref x), some (.int (nI B)), some (.int (nI ((B + 15) / 16))), some (.int (nI (rwC (fre F) j))), some (.int (nI j))] [.int z] [LO x r f, RW G (r 3) F] 0 0 := by
        intro z hz
        subst hz
        refine ex_is d_ML_room_40 (Nat.le_of_ble_eq_true rfl) ?_
        refine ex_il d_ML_room_41 rfl ?_
        refine ex_il d_ML_room_42 rfl ?_
        refine ex_icmp_ne d_ML_room_43 (fun h43 => ?_) (fun h43 => ?_)
        · skip
          have h43 : ¬ rwC (fre F) (j + 1) = (B + 15) / 16 := fun z => h43 (by rw [z])
          refine ex_inc d_ML_room_53 rfl ?_
          refine ex_goto d_ML_room_56 ?_
          exact ih hlt (fun i hi => by rcases Nat.lt_or_ge i j with z | z; exact hno i z; rw [show i = j by omega]; simpa using h43)
        · skip
          have h43 : rwC (fre F) (j + 1) = (B + 15) / 16 := (nI_eq (by omega) (by omega)).mp h43
          refine ex_il d_ML_room_46 rfl ?_
          refine ex_il d_ML_room_48 rfl ?_
          refine ex_isub d_ML_room_49 ?_
          refine ex_k d_ML_room_50 ?_
          refine ex_iadd d_ML_room_51 ?_
          exact ex_iret [LO x r f, RW G (r 3) F] hG d_ML_room_52 rfl rfl (by decide) (by decide) (eg_sub.of rfl) ⟨by rw [rmI, rwF, tfind_some (j := j) hlt (by simpa using h43) hno]; show (Sum.inl (some (Value.int (nI j - nI ((B + 15) / 16) + nI 1))) : eg_O) = _; rw [show nI j - nI ((B + 15) / 16) + nI 1 = nI (j + 1 - (B + 15) / 16) by rw [show nI j - nI ((B + 15) / 16) + nI 1 = (nI j + nI 1) - nI ((B + 15) / 16) by grind, nI_add, pk_sub (by omega)]], rfl⟩
      refine ex_al d_ML_room_23 rfl ?_
      refine lg 0 fl_ML_32 d_ML_room_24 rfl rfl ?_
      refine ex_il d_ML_room_27 rfl ?_
      refine ex_ald61 1 d_ML_room_29 rfl (ix_e hlt) ?_
      refine ex_ifnonnull d_ML_room_30 (fun z30 h30 => ?_) (fun h30 => ?_)
      · skip
        refine ex_k d_ML_room_39 ?_
        exact J3 _ (by rw [rwC, if_neg (by rw [fre, h30]; simp)]; rfl)
      · skip
        refine ex_il d_ML_room_33 rfl ?_
        refine ex_k d_ML_room_34 ?_
        refine ex_iadd d_ML_room_35 ?_
        refine ex_goto d_ML_room_36 ?_
        exact J3 _ (by rw [rwC, if_pos (show fre F j = true from decide_eq_true h30), nI_1])
  exact L 0 (Nat.zero_le _) (fun i hi => absurd hi (Nat.not_lt_zero _))
