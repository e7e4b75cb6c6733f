/-! ARRAYLIST -/
def ALo (a b len : Nat) (x : Int32) : va_W := [(a, .inr (10, [.ref b, .int (nI len), .int x]))]
def ALq (G : eg_G) (b cap : Nat) (f : Nat → Option Nat) : va_W := [(b, .inl (eg_c G 7, cap, .inr (.inr (.inr (.inr f)))))]
def ALn (h : Nat) : va_W := [(h, .inr (10, [.null, .int 0, .int 0]))]
def cpO (c : Nat) : Prop := c = 10 ∨ c = 15 ∨ c = 22 ∨ c = 33
set_option maxRecDepth 100000 in
theorem c_AC_init (l : Launch) (G : eg_G) (h : Nat) : Ct l G y_AC_init 2 0 0 [.ref h] [] (rF none []) := by
  refine Ct.of cd_AC_init (eg_catb rfl) (Nat.le_of_ble_eq_true rfl) ?_
  intro Γ hG
  have hR := hG.rm
  show Ex G Γ mu_AC_init 0 [some (.ref h)] [] [] 0 0
  refine ex_al d_AC_init_0 rfl ?_
  refine ex_oinit hR d_AC_init_1 ol_AC_1 oi_inst oi_code (Nat.le_of_ble_eq_true rfl) ?_
  exact ex_vret [] hG d_AC_init_4 rfl (by decide) (by decide) (eg_sub.of rfl) ⟨rfl, rfl⟩
set_option maxRecDepth 100000 in
theorem c_AB_init (l : Launch) (G : eg_G) (h : Nat) : Ct l G y_AB_init 3 0 0 [.ref h] [ALn h] (rF none [ALn h]) := by
  refine Ct.of cd_AB_init (eg_catb rfl) (Nat.le_of_ble_eq_true rfl) ?_
  intro Γ hG
  have hR := hG.rm
  show Ex G Γ mu_AB_init 0 [some (.ref h)] [] [ALn h] 0 0
  refine ex_al d_AB_init_0 rfl ?_
  refine ex_cV [] hR (c_AC_init l G h) (eg_invI d_AB_init_1 cd_AC_init rfl rfl tw_260 cx_AB_1 rfl rfl) cd_AC_init rfl rfl (Nat.le_of_ble_eq_true rfl) (by decide) (by decide) (by decide) (by decide) rfl ?_
  refine ex_al d_AB_init_4 rfl ?_
  refine ex_k d_AB_init_5 ?_
  refine ex_put1 0 wl_AB_7 d_AB_init_6 rfl rfl rfl (Nat.le_of_ble_eq_true rfl) ?_
  exact ex_vret [ALn h] hG d_AB_init_9 rfl (by decide) (by decide) (eg_sub.of rfl) ⟨rfl, rfl⟩
set_option maxRecDepth 100000 in
theorem c_AL_init (l : Launch) (G : eg_G) (h : Nat) : Ct l G y_AL_init 4 0 0 [.ref h] [ALn h] (rF none [ALo h G.2.2.2.1 0 0]) := by
  refine Ct.of cd_AL_init (eg_catb rfl) (Nat.le_of_ble_eq_true rfl) ?_
  intro Γ hG
  have hR := hG.rm
  show Ex G Γ mu_AL_init 0 [some (.ref h)] [] [ALn h] 0 0
  refine ex_al d_AL_init_0 rfl ?_
  refine ex_cV [0] hR (c_AB_init l G h) (eg_invI d_AL_init_1 cd_AB_init rfl rfl tw_257 cx_AL_1 rfl rfl) cd_AB_init rfl rfl (Nat.le_of_ble_eq_true rfl) (by decide) (by decide) (by decide) (by decide) rfl ?_
  refine ex_al d_AL_init_4 rfl ?_
  refine ex_dce (by decide +kernel) d_AL_init_5 ?_
  refine ex_put1 0 wl_AL_9 d_AL_init_8 rfl rfl rfl (Nat.le_of_ble_eq_true rfl) ?_
  exact ex_vret [ALo h G.2.2.2.1 0 0] hG d_AL_init_11 rfl (by decide) (by decide) (eg_sub.of rfl) ⟨rfl, rfl⟩
set_option maxRecDepth 100000 in
theorem c_AL_size (l : Launch) (G : eg_G) (P : va_W) (a b len : Nat) (x : Int32) (ho : (a, .inr (10, [.ref b, .int (nI len), .int x])) ∈ P) : Ct l G y_AL_size 1 0 0 [.ref a] [P] (rF (some (.int (nI len))) [P]) := by
  refine Ct.of cd_AL_size (eg_catb rfl) (Nat.le_of_ble_eq_true rfl) ?_
  intro Γ hG
  have hR := hG.rm
  show Ex G Γ mu_AL_size 0 [some (.ref a)] [] [P] 0 0
  refine ex_al d_AL_size_0 rfl ?_
  refine ex_get 0 fl_AL_48 d_AL_size_1 rfl ho rfl ?_
  exact ex_iret [P] hG d_AL_size_4 rfl rfl (by decide) (by decide) (eg_sub.of rfl) ⟨rfl, rfl⟩
set_option maxRecDepth 100000 in
theorem c_Pr_checkIndex (l : Launch) (G : eg_G) (i n : Nat) (h : i < n) (hn : n < 2 ^ 31) : Ct l G y_Pr_checkIndex 1 0 0 [.int (nI i), .int (nI n), .null] [] (rF (some (.int (nI i))) []) := by
  refine Ct.of cd_Pr_checkIndex (eg_catb rfl) (Nat.le_of_ble_eq_true rfl) ?_
  intro Γ hG
  have hR := hG.rm
  show Ex G Γ mu_Pr_checkIndex 0 [some (.int (nI i)), some (.int (nI n)), some (.null)] [] [] 0 0
  refine ex_il d_Pr_checkIndex_0 rfl ?_
  refine ex_if_lt d_Pr_checkIndex_1 (fun h1 => absurd h1 (nI_pos (by omega))) (fun h1 => ?_)
  refine ex_il d_Pr_checkIndex_4 rfl ?_
  refine ex_il d_Pr_checkIndex_5 rfl ?_
  refine ex_icmp_lt d_Pr_checkIndex_6 (fun h6 => ?_) (fun h6 => absurd (nI_lt h hn) h6)
  refine ex_il d_Pr_checkIndex_16 rfl ?_
  exact ex_iret [] hG d_Pr_checkIndex_17 rfl rfl (by decide) (by decide) (eg_sub.of rfl) ⟨rfl, rfl⟩
set_option maxRecDepth 100000 in
theorem c_Ob_checkIndex (l : Launch) (G : eg_G) (i n : Nat) (h : i < n) (hn : n < 2 ^ 31) : Ct l G y_Ob_checkIndex 2 0 0 [.int (nI i), .int (nI n)] [] (rF (some (.int (nI i))) []) := by
  refine Ct.of cd_Ob_checkIndex (eg_catb rfl) (Nat.le_of_ble_eq_true rfl) ?_
  intro Γ hG
  have hR := hG.rm
  show Ex G Γ mu_Ob_checkIndex 0 [some (.int (nI i)), some (.int (nI n))] [] [] 0 0
  refine ex_il d_Ob_checkIndex_0 rfl ?_
  refine ex_il d_Ob_checkIndex_1 rfl ?_
  refine ex_null d_Ob_checkIndex_2 ?_
  refine ex_cP hR (c_Pr_checkIndex l G i n h hn) (eg_invS d_Ob_checkIndex_3 cd_Pr_checkIndex cx_Ob_105 rfl rfl) cd_Pr_checkIndex (Nat.le_of_ble_eq_true rfl) (by decide) (by decide) (by decide) (by decide) rfl ?_
  exact ex_iret [] hG d_Ob_checkIndex_6 rfl rfl (by decide) (by decide) (eg_sub.of rfl) ⟨rfl, rfl⟩
set_option maxRecDepth 100000 in
theorem c_AL_elementData (l : Launch) (G : eg_G) (P : va_W) (a b len cap : Nat) (x : Int32) (f : Nat → Option Nat) (ho : (a, .inr (10, [.ref b, .int (nI len), .int x])) ∈ P) (hq : (b, .inl (eg_c G 7, cap, .inr (.inr (.inr (.inr f))))) ∈ P) (i : Nat) (hi : i < cap) (hc : cap < 2 ^ 31) : Ct l G y_AL_elementData 1 0 0 [.ref a, .int (nI i)] [P] (rF (some (va_rf (f i))) [P]) := by
  refine Ct.of cd_AL_elementData (eg_catb rfl) (Nat.le_of_ble_eq_true rfl) ?_
  intro Γ hG
  have hR := hG.rm
  show Ex G Γ mu_AL_elementData 0 [some (.ref a), some (.int (nI i))] [] [P] 0 0
  refine ex_al d_AL_elementData_0 rfl ?_
  refine ex_get 0 fl_AL_9 d_AL_elementData_1 rfl ho rfl ?_
  refine ex_il d_AL_elementData_4 rfl ?_
  refine ex_ald7 0 d_AL_elementData_5 rfl hq (ix_e hi rfl hc) ?_
  exact ex_aret [P] hG d_AL_elementData_6 rfl (by first | exact Or.inl ⟨_, rfl⟩ | exact Or.inr ⟨_, rfl⟩) (by decide) (by decide) (eg_sub.of rfl) ⟨rfl, rfl⟩
set_option maxRecDepth 100000 in
theorem c_AL_get (l : Launch) (G : eg_G) (P : va_W) (a b len cap : Nat) (x : Int32) (f : Nat → Option Nat) (ho : (a, .inr (10, [.ref b, .int (nI len), .int x])) ∈ P) (hq : (b, .inl (eg_c G 7, cap, .inr (.inr (.inr (.inr f))))) ∈ P) (i : Nat) (hi : i < len) (hl : len ≤ cap) (hc : cap < 2 ^ 31) : Ct l G y_AL_get 3 0 0 [.ref a, .int (nI i)] [P] (rF (some (va_rf (f i))) [P]) := by
  refine Ct.of cd_AL_get (eg_catb rfl) (Nat.le_of_ble_eq_true rfl) ?_
  intro Γ hG
  have hR := hG.rm
  show Ex G Γ mu_AL_get 0 [some (.ref a), some (.int (nI i))] [] [P] 0 0
  refine ex_il d_AL_get_0 rfl ?_
  refine ex_al d_AL_get_1 rfl ?_
  refine ex_get 0 fl_AL_48 d_AL_get_2 rfl ho rfl ?_
  refine ex_cP hR (c_Ob_checkIndex l G i len hi (by omega)) (eg_invS d_AL_get_5 cd_Ob_checkIndex cx_AL_118 rfl rfl) cd_Ob_checkIndex (Nat.le_of_ble_eq_true rfl) (by decide) (by decide) (by decide) (by decide) rfl ?_
  refine ex_pop d_AL_get_8 rfl ?_
  refine ex_al d_AL_get_9 rfl ?_
  refine ex_il d_AL_get_10 rfl ?_
  refine ex_cF [0] hR (c_AL_elementData l G P a b len cap x f ho hq i (by omega) hc) (eg_invV 0 d_AL_get_11 cd_AL_elementData cx_AL_123 rfl rfl ho rfl rfl) cd_AL_elementData rfl rfl (Nat.le_of_ble_eq_true rfl) (by decide) (by decide) (by decide) (by decide) rfl ?_
  exact ex_aret [P] hG d_AL_get_14 rfl (by first | exact Or.inl ⟨_, rfl⟩ | exact Or.inr ⟨_, rfl⟩) (by decide) (by decide) (eg_sub.of rfl) ⟨rfl, rfl⟩
theorem cp_new {c : Nat} (h : cpO c) (h2 : c < 33) : cpO (c + c / 2) ∧ 1 ≤ c / 2 := by
  rcases h with rfl | rfl | rfl | rfl <;> simp [cpO] at *
set_option maxRecDepth 100000 in
theorem c_Su_newLength (l : Launch) (G : eg_G) (c : Nat) (h : cpO c) (h2 : c < 33) : Ct l G y_Su_newLength 2 0 0 [.int (nI c), .int (nI 1), .int (nI (c / 2))] [] (rF (some (.int (nI (c + c / 2)))) []) := by
  refine Ct.of cd_Su_newLength (eg_catb rfl) (Nat.le_of_ble_eq_true rfl) ?_
  intro Γ hG
  have hR := hG.rm
  show Ex G Γ mu_Su_newLength 0 [some (.int (nI c)), some (.int (nI 1)), some (.int (nI (c / 2))), none] [] [] 0 0
  obtain ⟨hc1, hc2⟩ := cp_new h h2
  refine ex_il d_Su_newLength_0 rfl ?_
  refine ex_il d_Su_newLength_1 rfl ?_
  refine ex_il d_Su_newLength_2 rfl ?_
  refine ex_mmax (d := 1) hR d_Su_newLength_3 ml_Su_194 (Nat.le_of_ble_eq_true rfl) (by decide) (by decide) ?_
  refine ex_eqT [.int (nI (c / 2)), .int (nI c)] (by by_cases z : nI 1 < nI (c / 2); rw [if_pos z]; rw [if_neg z, show c / 2 = 1 from by have := mt (nI_ltI (a := 1) (b := c / 2) (by decide) (by omega)).mpr z; omega]) ?_
  refine ex_iadd d_Su_newLength_6 ?_
  rw [nI_add]
  refine ex_is d_Su_newLength_7 (Nat.le_of_ble_eq_true rfl) ?_
  refine ex_k d_Su_newLength_8 ?_
  refine ex_il d_Su_newLength_9 rfl ?_
  refine ex_icmp_ge d_Su_newLength_10 (fun h10 => absurd h10 (nI_nle (by omega) (by omega))) (fun h10 => ?_)
  refine ex_il d_Su_newLength_13 rfl ?_
  refine ex_k d_Su_newLength_14 ?_
  refine ex_icmp_gt d_Su_newLength_16 (fun h16 => absurd ((nI_leI (b := 2147483639) (by omega) (by decide)).mpr (by omega)) (Int32.not_le.mpr h16)) (fun h16 => ?_)
  refine ex_il d_Su_newLength_19 rfl ?_
  exact ex_iret [] hG d_Su_newLength_20 rfl rfl (by decide) (by decide) (eg_sub.of rfl) ⟨rfl, rfl⟩
