/-! THE LOADER, 4: poke, guard -/
/-- ends by kind: 0 returns, 1 and 2 throw -/
def rK (k : Int32) (v : Option Value) (X : eg_S) (E1 E2 : String) (Y : eg_S) : eg_O → eg_S → Prop := fun o S' => (k = 0 ∧ o = .inl v ∧ S' = X) ∨ (k = 1 ∧ o = .inr E1 ∧ S' = Y) ∨ (k = 2 ∧ o = .inr E2 ∧ S' = Y)
set_option maxRecDepth 100000 in
theorem c_ML_poke (l : Launch) (G : eg_G) (x : Nat) (r : Nat → Nat) (f : Nat → Int32) (a : Nat → Nat) (M : Nat → Int32) (P : Int32 → Bool) (R : Nat → Int32) (pc tr md : Int32) (hr0 : r 0 = a 0) (hse : f 2 = 0 ∨ f 2 = 1) (v w : Int32) : Ct l G y_ML_poke 7 2 12 [.ref x, .int v, .int w] [LO x r f, MA G a M P R pc tr md] (rK (pokT f v) none [LO x r f, MA G a (putB M v.toNatClampNeg w 4) P R pc tr md] x_IOB x_ISE [LO x r f, MA G a M P R pc tr md]) := by
  refine Ct.of cd_ML_poke (eg_catb rfl) (Nat.le_of_ble_eq_true rfl) ?_
  intro Γ hG
  have hR := hG.rm
  show Ex G Γ mu_ML_poke 0 [some (.ref x), some (.int v), some (.int w)] [] [LO x r f, MA G a M P R pc tr md] 0 0
  have J : ∀ z : Int32, z = bI (isWd v 512) → Ex G Γ mu_ML_poke 22 [some (.ref x), some (.int v), some (.int w)] [.int z] [LO x r f, MA G a M P R pc tr md] 0 0 := by
    intro z hz
    subst hz
    refine ex_cCV [] hR (c_ML_inside l G (isWd v 512)) (eg_invS d_ML_poke_22 cd_ML_inside cx_ML_53 rfl rfl) cd_ML_inside rfl rfl (Nat.le_of_ble_eq_true rfl) (by decide) (by decide) (by decide) (by decide) rfl (fun hc22 => ?_) (fun hc22 => ?_)
    rotate_left
    · skip
      exact ext_leave [LO x r f, MA G a M P R pc tr md] hG (fun _ h => absurd h List.not_mem_nil) (by decide) (by decide) (eg_sub.of rfl) (Or.inr (Or.inl ⟨by rw [pokT, if_neg hc22], rfl, rfl⟩))
    refine ex_eqS [LO x r f, MA G a M P R pc tr md] rfl ?_
    obtain ⟨j, hj, hje, hj4⟩ := isWd_of (E := 512) (by decide) (show isWd v (nI 512) = true from hc22)
    have J2 : ∀ z : Int32, z = bI (decide (f 2 = 0)) → Ex G Γ mu_ML_poke 37 [some (.ref x), some (.int v), some (.int w)] [.int z] [LO x r f, MA G a M P R pc tr md] 1 6 := by
      intro z hz
      subst hz
      refine ex_cCV [] hR (c_ML_state l G (decide (f 2 = 0))) (eg_invS d_ML_poke_37 cd_ML_state cx_ML_61 rfl rfl) cd_ML_state rfl rfl (Nat.le_of_ble_eq_true rfl) (by decide) (by decide) (by decide) (by decide) rfl (fun hc37 => ?_) (fun hc37 => ?_)
      rotate_left
      · skip
        exact ext_leave [LO x r f, MA G a M P R pc tr md] hG (fun _ h => absurd h List.not_mem_nil) (by decide) (by decide) (eg_sub.of rfl) (Or.inr (Or.inr ⟨by rw [pokT, if_pos hc22, if_neg (by simpa using hc37)], rfl, rfl⟩))
      refine ex_eqS [LO x r f, MA G a M P R pc tr md] rfl ?_
      have hc37 : f 2 = 0 := by simpa using hc37
      refine ex_al d_ML_poke_40 rfl ?_
      refine lg 0 fl_ML_10 d_ML_poke_41 rfl rfl ?_
      rw [hr0]
      refine ex_il d_ML_poke_44 rfl ?_
      refine ex_k d_ML_poke_45 ?_
      refine ex_il d_ML_poke_46 rfl ?_
      refine ex_eqT [.int w, .int (nI 4), .int (nI j), .ref (a 0)] (by rw [hje]; rfl) ?_
      refine ex_cV [1] hR (c_Ma_write l G a M P R pc tr md j 4 w (by decide) (by omega)) (eg_invV 1 d_ML_poke_47 cd_Ma_write cx_ML_64 rfl rfl List.mem_cons_self rfl rfl) cd_Ma_write rfl rfl (Nat.le_of_ble_eq_true rfl) (by decide) (by decide) (by decide) (by decide) rfl ?_
      exact ex_vret [LO x r f, MA G a (putB M j w 4) P R pc tr md] hG d_ML_poke_50 rfl (by decide) (by decide) (eg_sub.of rfl) (Or.inl ⟨by rw [pokT, if_pos hc22, if_pos hc37], rfl, by rw [hje, nI_clamp (by omega)]⟩)
    refine ex_al d_ML_poke_25 rfl ?_
    refine lg 0 fl_ML_57 d_ML_poke_26 rfl rfl ?_
    refine ex_if_ne d_ML_poke_29 (fun h29 => ?_) (fun h29 => ?_)
    · skip
      have h29 : ¬ f 2 = 0 := h29
      refine ex_k d_ML_poke_36 ?_
      exact J2 _ (by clear J2 hG hR; grind [bI])
    · skip
      have h29 : f 2 = 0 := h29
      refine ex_k d_ML_poke_32 ?_
      refine ex_goto d_ML_poke_33 ?_
      exact J2 _ (by clear J2 hG hR; grind [bI])
  refine ex_il d_ML_poke_0 rfl ?_
  refine ex_if_lt d_ML_poke_1 (fun h1 => ?_) (fun h1 => ?_)
  · skip
    refine ex_k d_ML_poke_21 ?_
    exact J _ (by clear J hG hR; grind [bI, isWd])
  · skip
    refine ex_il d_ML_poke_4 rfl ?_
    refine ex_k d_ML_poke_5 ?_
    refine ex_icmp_ge d_ML_poke_8 (fun h8 => ?_) (fun h8 => ?_)
    · skip
      refine ex_k d_ML_poke_21 ?_
      exact J _ (by clear J hG hR; grind [bI, isWd])
    · skip
      refine ex_il d_ML_poke_11 rfl ?_
      refine ex_k d_ML_poke_12 ?_
      refine ex_irem d_ML_poke_13 (by decide) ?_
      refine ex_if_ne d_ML_poke_14 (fun h14 => ?_) (fun h14 => ?_)
      · skip
        refine ex_k d_ML_poke_21 ?_
        exact J _ (by clear J hG hR; grind [bI, isWd])
      · skip
        refine ex_k d_ML_poke_17 ?_
        refine ex_goto d_ML_poke_18 ?_
        exact J _ (by clear J hG hR; grind [bI, isWd])
