/-! THE LOADER, 1: small ones -/
set_option maxRecDepth 100000 in
theorem c_ML_inside (l : Launch) (G : eg_G) (b : Bool) : Ct l G y_ML_inside 6 1 6 [.int (bI b)] [] (rC (b = true) none [] x_IOB []) := by
  refine Ct.of cd_ML_inside (eg_catb rfl) (Nat.le_of_ble_eq_true rfl) ?_
  intro Γ hG
  have hR := hG.rm
  show Ex G Γ mu_ML_inside 0 [some (.int (bI b))] [] [] 0 0
  refine ex_il d_ML_inside_0 rfl ?_
  refine ex_if_ne d_ML_inside_1 (fun h1 => ?_) (fun h1 => ?_)
  · skip
    have hb : b = true := by cases b; exact absurd rfl h1; rfl
    exact ex_vret [] hG d_ML_inside_12 rfl (by decide) (by decide) (eg_sub.of rfl) (Or.inl ⟨hb, rfl, rfl⟩)
  · skip
    have hb : ¬ b = true := by rw [bI_0.mp h1]; decide
    exact ex_thr [] hG d_ML_inside_4.1 d_ML_inside_7.1 d_ML_inside_8.1 d_ML_inside_11.1 th_ML_inside (fun _ h => absurd h List.not_mem_nil) (Nat.le_of_ble_eq_true rfl) (by decide) (by decide) (by decide) (eg_sub.of rfl) (Or.inr ⟨hb, rfl, rfl⟩)
set_option maxRecDepth 100000 in
theorem c_ML_fits (l : Launch) (G : eg_G) (b : Bool) : Ct l G y_ML_fits 6 1 6 [.int (bI b)] [] (rC (b = true) none [] x_IAE []) := by
  refine Ct.of cd_ML_fits (eg_catb rfl) (Nat.le_of_ble_eq_true rfl) ?_
  intro Γ hG
  have hR := hG.rm
  show Ex G Γ mu_ML_fits 0 [some (.int (bI b))] [] [] 0 0
  refine ex_il d_ML_fits_0 rfl ?_
  refine ex_if_ne d_ML_fits_1 (fun h1 => ?_) (fun h1 => ?_)
  · skip
    have hb : b = true := by cases b; exact absurd rfl h1; rfl
    exact ex_vret [] hG d_ML_fits_12 rfl (by decide) (by decide) (eg_sub.of rfl) (Or.inl ⟨hb, rfl, rfl⟩)
  · skip
    have hb : ¬ b = true := by rw [bI_0.mp h1]; decide
    exact ex_thr [] hG d_ML_fits_4.1 d_ML_fits_7.1 d_ML_fits_8.1 d_ML_fits_11.1 th_ML_fits (fun _ h => absurd h List.not_mem_nil) (Nat.le_of_ble_eq_true rfl) (by decide) (by decide) (by decide) (eg_sub.of rfl) (Or.inr ⟨hb, rfl, rfl⟩)
set_option maxRecDepth 100000 in
theorem c_ML_state (l : Launch) (G : eg_G) (b : Bool) : Ct l G y_ML_state 6 1 6 [.int (bI b)] [] (rC (b = true) none [] x_ISE []) := by
  refine Ct.of cd_ML_state (eg_catb rfl) (Nat.le_of_ble_eq_true rfl) ?_
  intro Γ hG
  have hR := hG.rm
  show Ex G Γ mu_ML_state 0 [some (.int (bI b))] [] [] 0 0
  refine ex_il d_ML_state_0 rfl ?_
  refine ex_if_ne d_ML_state_1 (fun h1 => ?_) (fun h1 => ?_)
  · skip
    have hb : b = true := by cases b; exact absurd rfl h1; rfl
    exact ex_vret [] hG d_ML_state_12 rfl (by decide) (by decide) (eg_sub.of rfl) (Or.inl ⟨hb, rfl, rfl⟩)
  · skip
    have hb : ¬ b = true := by rw [bI_0.mp h1]; decide
    exact ex_thr [] hG d_ML_state_4.1 d_ML_state_7.1 d_ML_state_8.1 d_ML_state_11.1 th_ML_state (fun _ h => absurd h List.not_mem_nil) (Nat.le_of_ble_eq_true rfl) (by decide) (by decide) (by decide) (eg_sub.of rfl) (Or.inr ⟨hb, rfl, rfl⟩)
