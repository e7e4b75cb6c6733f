/-! ARRAYLIST, 4: add at a place, remove -/
set_option maxRecDepth 100000 in
theorem c_AL_rangeCheckForAdd (l : Launch) (G : eg_G) (a b len i : Nat) (x : Int32) (hi : i ≤ len) (hl : len < 2 ^ 31) : Ct l G y_AL_rangeCheckForAdd 1 0 0 [.ref a, .int (nI i)] [ALo a b len x] (rF none [ALo a b len x]) := by
  refine Ct.of cd_AL_rangeCheckForAdd (eg_catb rfl) (Nat.le_of_ble_eq_true rfl) ?_
  intro Γ hG
  have hR := hG.rm
  show Ex G Γ mu_AL_rangeCheckForAdd 0 [some (.ref a), some (.int (nI i))] [] [ALo a b len x] 0 0
  refine ex_il d_AL_rangeCheckForAdd_0 rfl ?_
  refine ex_al d_AL_rangeCheckForAdd_1 rfl ?_
  refine ex_get1 0 fl_AL_48 d_AL_rangeCheckForAdd_2 rfl rfl ?_
  refine ex_icmp_gt d_AL_rangeCheckForAdd_5 (fun h5 => absurd h5 (nI_nlt hi hl)) (fun h5 => ?_)
  refine ex_il d_AL_rangeCheckForAdd_8 rfl ?_
  refine ex_if_ge d_AL_rangeCheckForAdd_9 (fun h9 => ?_) (fun h9 => absurd (nI_pos' (by omega)) h9)
  exact ex_vret [ALo a b len x] hG d_AL_rangeCheckForAdd_25 rfl (by decide) (by decide) (eg_sub.of rfl) ⟨rfl, rfl⟩
set_option maxRecDepth 100000 in
theorem c_AL_add0E (l : Launch) (G : eg_G) (ci N : Nat) (C : String) (T : u_T) (hcl : classes[ci]? = some (C, T, N)) (hca : Cond.castable C "java/lang/Object" ∈ eg_ws) (PV : va_W) (a i : Nat) (hi : i ≤ 0) (x : Int32) (y : Nat) (ys : List Value) (hy : (y, .inr (ci, ys)) ∈ PV) : Ct l G y_AL_add0 8 1 100 [.ref a, .int (nI i), .ref y] [ALo a G.2.2.2.1 0 x, [], PV] (fun o S2 => ∃ b2 q2, o = .inl none ∧ S2 = [ALo a b2 (0 + 1) (x + 1), q2, PV] ∧ ALw G b2 (0 + 1) (insF (fun _ => none) i y) q2) := by
  refine Ct.of cd_AL_add0 (eg_catb rfl) (Nat.le_of_ble_eq_true rfl) ?_
  intro Γ hG
  have hR := hG.rm
  show Ex G Γ mu_AL_add0 0 [some (.ref a), some (.int (nI i)), some (.ref y), none, none] [] [ALo a G.2.2.2.1 0 x, [], PV] 0 0
  refine ex_al d_AL_add0_0 rfl ?_
  refine ex_il d_AL_add0_1 rfl ?_
  refine ex_cV [0] hR (c_AL_rangeCheckForAdd l G a G.2.2.2.1 0 i x hi (by omega)) (eg_invV 0 d_AL_add0_2 cd_AL_rangeCheckForAdd cx_AL_135 rfl rfl List.mem_cons_self rfl rfl) cd_AL_rangeCheckForAdd rfl rfl (Nat.le_of_ble_eq_true rfl) (by decide) (by decide) (by decide) (by decide) rfl ?_
  refine ex_al d_AL_add0_5 rfl ?_
  refine ex_dup d_AL_add0_6 rfl ?_
  refine ex_get1 0 fl_AL_63 d_AL_add0_7 rfl rfl ?_
  refine ex_k d_AL_add0_10 ?_
  refine ex_iadd d_AL_add0_11 ?_
  refine ex_put1 0 wl_AL_63 d_AL_add0_12 rfl rfl rfl (Nat.le_of_ble_eq_true rfl) ?_
  refine ex_eqS [ALo a G.2.2.2.1 0 (x + 1), [], PV] rfl ?_
  refine ex_al d_AL_add0_15 rfl ?_
  refine ex_get1 0 fl_AL_48 d_AL_add0_16 rfl rfl ?_
  refine ex_dup d_AL_add0_19 rfl ?_
  refine ex_is d_AL_add0_20 (Nat.le_of_ble_eq_true rfl) ?_
  refine ex_al d_AL_add0_21 rfl ?_
  refine ex_get1 0 fl_AL_9 d_AL_add0_22 rfl rfl ?_
  refine ex_dup d_AL_add0_25 rfl ?_
  refine ex_as d_AL_add0_26 (Nat.le_of_ble_eq_true rfl) ?_
  refine ex_tlen d_AL_add0_28 ?_
  refine ex_icmp_ne d_AL_add0_29 (fun z => absurd rfl z) (fun _ => ?_)
  refine ex_al d_AL_add0_32 rfl ?_
  refine ex_call [0] hR (c_AL_grow0E l G a (x + 1)) (eg_invV 0 d_AL_add0_33 cd_AL_grow0 cx_AL_129 rfl rfl List.mem_cons_self rfl rfl) cd_AL_grow0 rfl rfl (Nat.le_of_ble_eq_true rfl) (by decide) (by decide) (by decide) (by decide) (fun v S1 hK1 => ?_) (fun E S1 hK1 => ?_)
  rotate_left
  · obtain ⟨b2, h1, -⟩ := hK1
    cases h1
  obtain ⟨b2, h1, rfl⟩ := hK1
  cases h1
  refine ex_eqT [.ref b2] rfl ?_
  refine ex_eqS [ALo a b2 0 (x + 1), [], PV, ALq G b2 10 (fun _ => none)] rfl ?_
  refine ex_as d_AL_add0_36 (Nat.le_of_ble_eq_true rfl) ?_
  refine ex_al d_AL_add0_38 rfl ?_
  refine ex_il d_AL_add0_40 rfl ?_
  refine ex_al d_AL_add0_41 rfl ?_
  refine ex_il d_AL_add0_43 rfl ?_
  refine ex_k d_AL_add0_44 ?_
  refine ex_iadd d_AL_add0_45 ?_
  refine ex_il d_AL_add0_46 rfl ?_
  refine ex_il d_AL_add0_47 rfl ?_
  refine ex_isub d_AL_add0_48 ?_
  refine ex_eqT [.int (nI (0 - i)), .int (nI (i + 1)), .ref b2, .int (nI i), .ref b2] (by rw [nI_1, pk_sub hi]) ?_
  refine ex_copy7 3 3 2 (d := 7) hR d_AL_add0_49 ml_AL_112 rfl List.mem_cons_self rfl rfl (fun j _ y hy => nomatch hy) hcl hca (by omega) (by omega) (by omega) (by omega) (Nat.le_of_ble_eq_true rfl) ?_
  refine ex_al d_AL_add0_52 rfl ?_
  refine ex_il d_AL_add0_54 rfl ?_
  refine ex_al d_AL_add0_55 rfl ?_
  refine ex_ast7 3 2 d_AL_add0_56 rfl (ix_e (j := i) (by omega) rfl (by omega)) rfl hy hcl (Or.inr hca) ?_
  refine ex_eqS [ALo a b2 0 (x + 1), [], PV, ALq G b2 10 (insF (fun _ => none) i y)] (by rw [← insF_e hi (f := fun _ => none) (fun _ _ => rfl)]; rfl) ?_
  refine ex_al d_AL_add0_57 rfl ?_
  refine ex_il d_AL_add0_58 rfl ?_
  refine ex_k d_AL_add0_59 ?_
  refine ex_iadd d_AL_add0_60 ?_
  rw [nI_1]
  refine ex_put1 0 wl_AL_48 d_AL_add0_61 rfl rfl rfl (Nat.le_of_ble_eq_true rfl) ?_
  refine ex_eqS [ALo a b2 (0 + 1) (x + 1), [], PV, ALq G b2 10 (insF (fun _ => none) i y)] rfl ?_
  exact ex_vret [ALo a b2 (0 + 1) (x + 1), ALq G b2 10 (insF (fun _ => none) i y), PV] hG d_AL_add0_64 rfl (by decide) (by decide) (eg_pick [0, 3, 2] rfl rfl) ⟨_, _, rfl, rfl, Or.inr ⟨10, rfl, Or.inl rfl, by omega⟩⟩
set_option maxRecDepth 100000 in
theorem c_AL_add0N (l : Launch) (G : eg_G) (ci N : Nat) (C : String) (T : u_T) (hcl : classes[ci]? = some (C, T, N)) (hca : Cond.castable C "java/lang/Object" ∈ eg_ws) (PV : va_W) (a b len cap i : Nat) (hi : i ≤ len) (x : Int32) (f : Nat → Option Nat) (hcp : cpO cap) (hlt : len < cap) (hf : ∀ i, len ≤ i → f i = none) (hE : ∀ i y, f i = some y → ∃ fs, (y, .inr (ci, fs)) ∈ PV) (y : Nat) (ys : List Value) (hy : (y, .inr (ci, ys)) ∈ PV) : Ct l G y_AL_add0 8 1 100 [.ref a, .int (nI i), .ref y] [ALo a b len x, ALq G b cap f, PV] (fun o S2 => ∃ b2 q2, o = .inl none ∧ S2 = [ALo a b2 (len + 1) (x + 1), q2, PV] ∧ ALw G b2 (len + 1) (insF f i y) q2) := by
  refine Ct.of cd_AL_add0 (eg_catb rfl) (Nat.le_of_ble_eq_true rfl) ?_
  intro Γ hG
  have hR := hG.rm
  show Ex G Γ mu_AL_add0 0 [some (.ref a), some (.int (nI i)), some (.ref y), none, none] [] [ALo a b len x, ALq G b cap f, PV] 0 0
  have hcl2 := cpO_lt hcp
  refine ex_al d_AL_add0_0 rfl ?_
  refine ex_il d_AL_add0_1 rfl ?_
  refine ex_cV [0] hR (c_AL_rangeCheckForAdd l G a b len i x hi (by omega)) (eg_invV 0 d_AL_add0_2 cd_AL_rangeCheckForAdd cx_AL_135 rfl rfl List.mem_cons_self rfl rfl) cd_AL_rangeCheckForAdd rfl rfl (Nat.le_of_ble_eq_true rfl) (by decide) (by decide) (by decide) (by decide) rfl ?_
  refine ex_al d_AL_add0_5 rfl ?_
  refine ex_dup d_AL_add0_6 rfl ?_
  refine ex_get1 0 fl_AL_63 d_AL_add0_7 rfl rfl ?_
  refine ex_k d_AL_add0_10 ?_
  refine ex_iadd d_AL_add0_11 ?_
  refine ex_put1 0 wl_AL_63 d_AL_add0_12 rfl rfl rfl (Nat.le_of_ble_eq_true rfl) ?_
  refine ex_eqS [ALo a b len (x + 1), ALq G b cap f, PV] rfl ?_
  refine ex_al d_AL_add0_15 rfl ?_
  refine ex_get1 0 fl_AL_48 d_AL_add0_16 rfl rfl ?_
  refine ex_dup d_AL_add0_19 rfl ?_
  refine ex_is d_AL_add0_20 (Nat.le_of_ble_eq_true rfl) ?_
  refine ex_al d_AL_add0_21 rfl ?_
  refine ex_get1 0 fl_AL_9 d_AL_add0_22 rfl rfl ?_
  refine ex_dup d_AL_add0_25 rfl ?_
  refine ex_as d_AL_add0_26 (Nat.le_of_ble_eq_true rfl) ?_
  refine ex_alen 1 d_AL_add0_28 rfl List.mem_cons_self rfl ?_
  refine ex_icmp_ne d_AL_add0_29 (fun _ => ?_) (fun z => absurd ((nI_eq (by omega) (by omega)).mp (show nI len = nI cap from z)) (by omega))
  refine ex_al d_AL_add0_38 rfl ?_
  refine ex_il d_AL_add0_40 rfl ?_
  refine ex_al d_AL_add0_41 rfl ?_
  refine ex_il d_AL_add0_43 rfl ?_
  refine ex_k d_AL_add0_44 ?_
  refine ex_iadd d_AL_add0_45 ?_
  refine ex_il d_AL_add0_46 rfl ?_
  refine ex_il d_AL_add0_47 rfl ?_
  refine ex_isub d_AL_add0_48 ?_
  refine ex_eqT [.int (nI (len - i)), .int (nI (i + 1)), .ref b, .int (nI i), .ref b] (by rw [nI_1, pk_sub hi]) ?_
  refine ex_copy7 1 1 2 (d := 7) hR d_AL_add0_49 ml_AL_112 rfl List.mem_cons_self rfl rfl (fun j _ y hy => hE _ y hy) hcl hca (by omega) (by omega) (by omega) (by omega) (Nat.le_of_ble_eq_true rfl) ?_
  refine ex_al d_AL_add0_52 rfl ?_
  refine ex_il d_AL_add0_54 rfl ?_
  refine ex_al d_AL_add0_55 rfl ?_
  refine ex_ast7 1 2 d_AL_add0_56 rfl (ix_e (j := i) (by omega) rfl (by omega)) rfl hy hcl (Or.inr hca) ?_
  refine ex_eqS [ALo a b len (x + 1), ALq G b cap (insF f i y), PV] (by rw [← insF_e hi hf]; rfl) ?_
  refine ex_al d_AL_add0_57 rfl ?_
  refine ex_il d_AL_add0_58 rfl ?_
  refine ex_k d_AL_add0_59 ?_
  refine ex_iadd d_AL_add0_60 ?_
  rw [nI_1]
  refine ex_put1 0 wl_AL_48 d_AL_add0_61 rfl rfl rfl (Nat.le_of_ble_eq_true rfl) ?_
  refine ex_eqS [ALo a b (len + 1) (x + 1), ALq G b cap (insF f i y), PV] rfl ?_
  exact ex_vret [ALo a b (len + 1) (x + 1), ALq G b cap (insF f i y), PV] hG d_AL_add0_64 rfl (by decide) (by decide) (eg_sub.of rfl) ⟨_, _, rfl, rfl, Or.inr ⟨cap, rfl, hcp, by omega⟩⟩
set_option maxRecDepth 100000 in
theorem c_AL_add0F (l : Launch) (G : eg_G) (ci N : Nat) (C : String) (T : u_T) (hcl : classes[ci]? = some (C, T, N)) (hca : Cond.castable C "java/lang/Object" ∈ eg_ws) (PV : va_W) (i : Nat) (a b cap : Nat) (x : Int32) (f : Nat → Option Nat) (hcp : cpO cap) (hc3 : cap < 33) (hf : ∀ i, cap ≤ i → f i = none) (hE : ∀ i y, f i = some y → ∃ fs, (y, .inr (ci, fs)) ∈ PV) (hi : i ≤ cap) (y : Nat) (ys : List Value) (hy : (y, .inr (ci, ys)) ∈ PV) : Ct l G y_AL_add0 8 1 100 [.ref a, .int (nI i), .ref y] [ALo a b cap x, ALq G b cap f, PV] (fun o S2 => ∃ b2 q2, o = .inl none ∧ S2 = [ALo a b2 (cap + 1) (x + 1), q2, PV] ∧ ALw G b2 (cap + 1) (insF f i y) q2) := by
  refine Ct.of cd_AL_add0 (eg_catb rfl) (Nat.le_of_ble_eq_true rfl) ?_
  intro Γ hG
  have hR := hG.rm
  show Ex G Γ mu_AL_add0 0 [some (.ref a), some (.int (nI i)), some (.ref y), none, none] [] [ALo a b cap x, ALq G b cap f, PV] 0 0
  have hcl2 := cpO_lt hcp
  obtain ⟨hc1, hc2⟩ := cp_new hcp hc3
  refine ex_al d_AL_add0_0 rfl ?_
  refine ex_il d_AL_add0_1 rfl ?_
  refine ex_cV [0] hR (c_AL_rangeCheckForAdd l G a b cap i x hi (by omega)) (eg_invV 0 d_AL_add0_2 cd_AL_rangeCheckForAdd cx_AL_135 rfl rfl List.mem_cons_self rfl rfl) cd_AL_rangeCheckForAdd rfl rfl (Nat.le_of_ble_eq_true rfl) (by decide) (by decide) (by decide) (by decide) rfl ?_
  refine ex_al d_AL_add0_5 rfl ?_
  refine ex_dup d_AL_add0_6 rfl ?_
  refine ex_get1 0 fl_AL_63 d_AL_add0_7 rfl rfl ?_
  refine ex_k d_AL_add0_10 ?_
  refine ex_iadd d_AL_add0_11 ?_
  refine ex_put1 0 wl_AL_63 d_AL_add0_12 rfl rfl rfl (Nat.le_of_ble_eq_true rfl) ?_
  refine ex_eqS [ALo a b cap (x + 1), ALq G b cap f, PV] rfl ?_
  refine ex_al d_AL_add0_15 rfl ?_
  refine ex_get1 0 fl_AL_48 d_AL_add0_16 rfl rfl ?_
  refine ex_dup d_AL_add0_19 rfl ?_
  refine ex_is d_AL_add0_20 (Nat.le_of_ble_eq_true rfl) ?_
  refine ex_al d_AL_add0_21 rfl ?_
  refine ex_get1 0 fl_AL_9 d_AL_add0_22 rfl rfl ?_
  refine ex_dup d_AL_add0_25 rfl ?_
  refine ex_as d_AL_add0_26 (Nat.le_of_ble_eq_true rfl) ?_
  refine ex_alen 1 d_AL_add0_28 rfl List.mem_cons_self rfl ?_
  refine ex_icmp_ne d_AL_add0_29 (fun z => absurd rfl z) (fun _ => ?_)
  refine ex_al d_AL_add0_32 rfl ?_
  refine ex_call [0, 1, 2] hR (c_AL_grow0 l G ci N C T hcl hca PV a b cap (x + 1) f hcp hc3 hf hE) (eg_invV 0 d_AL_add0_33 cd_AL_grow0 cx_AL_129 rfl rfl List.mem_cons_self rfl rfl) cd_AL_grow0 rfl rfl (Nat.le_of_ble_eq_true rfl) (by decide) (by decide) (by decide) (by decide) (fun v S1 hK1 => ?_) (fun E S1 hK1 => ?_)
  rotate_left
  · obtain ⟨b2, h1, -⟩ := hK1
    cases h1
  obtain ⟨b2, h1, rfl⟩ := hK1
  cases h1
  refine ex_eqT [.ref b2] rfl ?_
  refine ex_eqS [ALo a b2 cap (x + 1), ALq G b2 (cap + cap / 2) f, PV] rfl ?_
  refine ex_as d_AL_add0_36 (Nat.le_of_ble_eq_true rfl) ?_
  refine ex_al d_AL_add0_38 rfl ?_
  refine ex_il d_AL_add0_40 rfl ?_
  refine ex_al d_AL_add0_41 rfl ?_
  refine ex_il d_AL_add0_43 rfl ?_
  refine ex_k d_AL_add0_44 ?_
  refine ex_iadd d_AL_add0_45 ?_
  refine ex_il d_AL_add0_46 rfl ?_
  refine ex_il d_AL_add0_47 rfl ?_
  refine ex_isub d_AL_add0_48 ?_
  refine ex_eqT [.int (nI (cap - i)), .int (nI (i + 1)), .ref b2, .int (nI i), .ref b2] (by rw [nI_1, pk_sub hi]) ?_
  refine ex_copy7 1 1 2 (d := 7) hR d_AL_add0_49 ml_AL_112 rfl List.mem_cons_self rfl rfl (fun j _ y hy => hE _ y hy) hcl hca (by omega) (by omega) (by omega) (by omega) (Nat.le_of_ble_eq_true rfl) ?_
  refine ex_al d_AL_add0_52 rfl ?_
  refine ex_il d_AL_add0_54 rfl ?_
  refine ex_al d_AL_add0_55 rfl ?_
  refine ex_ast7 1 2 d_AL_add0_56 rfl (ix_e (j := i) (by omega) rfl (by omega)) rfl hy hcl (Or.inr hca) ?_
  refine ex_eqS [ALo a b2 cap (x + 1), ALq G b2 (cap + cap / 2) (insF f i y), PV] (by rw [← insF_e hi hf]; rfl) ?_
  refine ex_al d_AL_add0_57 rfl ?_
  refine ex_il d_AL_add0_58 rfl ?_
  refine ex_k d_AL_add0_59 ?_
  refine ex_iadd d_AL_add0_60 ?_
  rw [nI_1]
  refine ex_put1 0 wl_AL_48 d_AL_add0_61 rfl rfl rfl (Nat.le_of_ble_eq_true rfl) ?_
  refine ex_eqS [ALo a b2 (cap + 1) (x + 1), ALq G b2 (cap + cap / 2) (insF f i y), PV] rfl ?_
  exact ex_vret [ALo a b2 (cap + 1) (x + 1), ALq G b2 (cap + cap / 2) (insF f i y), PV] hG d_AL_add0_64 rfl (by decide) (by decide) (eg_sub.of rfl) ⟨_, _, rfl, rfl, Or.inr ⟨(cap + cap / 2), rfl, hc1, by omega⟩⟩
theorem c_AL_add0 (l : Launch) (G : eg_G) (ci N : Nat) (C : String) (T : u_T) (hcl : classes[ci]? = some (C, T, N)) (hca : Cond.castable C "java/lang/Object" ∈ eg_ws) (PV : va_W) (a b len i : Nat) (hi : i ≤ len) (x : Int32) (f : Nat → Option Nat) (q : va_W) (hw : ALw G b len f q) (hl3 : len < 33) (hf : ∀ i, len ≤ i → f i = none) (hE : ∀ i y, f i = some y → ∃ fs, (y, .inr (ci, fs)) ∈ PV) (y : Nat) (ys : List Value) (hy : (y, .inr (ci, ys)) ∈ PV) : Ct l G y_AL_add0 8 1 100 [.ref a, .int (nI i), .ref y] [ALo a b len x, q, PV] (fun o S2 => ∃ b2 q2, o = .inl none ∧ S2 = [ALo a b2 (len + 1) (x + 1), q2, PV] ∧ ALw G b2 (len + 1) (insF f i y) q2) := by
  rcases hw with ⟨rfl, rfl, rfl⟩ | ⟨cap, rfl, hcp, hle⟩
  · obtain rfl : f = fun _ => none := funext fun i => hf i (Nat.zero_le _)
    exact c_AL_add0E l G ci N C T hcl hca PV a i hi x y ys hy
  · rcases Nat.lt_or_ge len cap with z | z
    · exact c_AL_add0N l G ci N C T hcl hca PV a b len cap i hi x f hcp z hf hE y ys hy
    · obtain rfl : cap = len := by omega
      exact c_AL_add0F l G ci N C T hcl hca PV i a b cap x f hcp hl3 hf hE hi y ys hy
set_option maxRecDepth 100000 in
theorem c_AL_fastRemove (l : Launch) (G : eg_G) (ci N : Nat) (C : String) (T : u_T) (hcl : classes[ci]? = some (C, T, N)) (hca : Cond.castable C "java/lang/Object" ∈ eg_ws) (PV : va_W) (a b len cap i : Nat) (hi : i < len) (hlc : len ≤ cap) (hcap : cap < 2 ^ 30) (x : Int32) (f : Nat → Option Nat) (hf : ∀ i, len ≤ i → f i = none) (hE : ∀ i y, f i = some y → ∃ fs, (y, .inr (ci, fs)) ∈ PV) : Ct l G y_AL_fastRemove 2 0 0 [.ref a, .ref b, .int (nI i)] [ALo a b len x, ALq G b cap f, PV] (rF none [ALo a b (len - 1) (x + 1), ALq G b cap (delF f i), PV]) := by
  refine Ct.of cd_AL_fastRemove (eg_catb rfl) (Nat.le_of_ble_eq_true rfl) ?_
  intro Γ hG
  have hR := hG.rm
  show Ex G Γ mu_AL_fastRemove 0 [some (.ref a), some (.ref b), some (.int (nI i)), none] [] [ALo a b len x, ALq G b cap f, PV] 0 0
  refine ex_al d_AL_fastRemove_0 rfl ?_
  refine ex_dup d_AL_fastRemove_1 rfl ?_
  refine ex_get1 0 fl_AL_63 d_AL_fastRemove_2 rfl rfl ?_
  refine ex_k d_AL_fastRemove_5 ?_
  refine ex_iadd d_AL_fastRemove_6 ?_
  refine ex_put1 0 wl_AL_63 d_AL_fastRemove_7 rfl rfl rfl (Nat.le_of_ble_eq_true rfl) ?_
  refine ex_eqS [ALo a b len (x + 1), ALq G b cap f, PV] rfl ?_
  refine ex_al d_AL_fastRemove_10 rfl ?_
  refine ex_get1 0 fl_AL_48 d_AL_fastRemove_11 rfl rfl ?_
  refine ex_k d_AL_fastRemove_14 ?_
  refine ex_isub d_AL_fastRemove_15 ?_
  refine ex_eqT [.int (nI (len - 1))] (by show [Value.int (nI len - nI 1)] = _; rw [pk_sub (by omega)]) ?_
  refine ex_dup d_AL_fastRemove_16 rfl ?_
  refine ex_is d_AL_fastRemove_17 (Nat.le_of_ble_eq_true rfl) ?_
  refine ex_il d_AL_fastRemove_18 rfl ?_
  have J : ∀ g, g = (if i < len - 1 then va_cpy f f (i + 1) i (len - 1 - i) else f) → Ex G Γ mu_AL_fastRemove 34 [some (.ref a), some (.ref b), some (.int (nI i)), some (.int (nI (len - 1)))] [] [ALo a b len (x + 1), ALq G b cap g, PV] 0 0 := by
    intro g hg
    refine ex_al d_AL_fastRemove_34 rfl ?_
    refine ex_al d_AL_fastRemove_35 rfl ?_
    refine ex_il d_AL_fastRemove_36 rfl ?_
    refine ex_dup_x1 d_AL_fastRemove_37 rfl rfl ?_
    refine ex_put1 0 wl_AL_48 d_AL_fastRemove_38 rfl rfl rfl (Nat.le_of_ble_eq_true rfl) ?_
    refine ex_eqS [ALo a b (len - 1) (x + 1), ALq G b cap g, PV] rfl ?_
    refine ex_null d_AL_fastRemove_41 ?_
    refine ex_astN7 1 d_AL_fastRemove_42 rfl (ix_e (j := len - 1) (by omega) rfl (by omega)) ?_
    refine ex_eqS [ALo a b (len - 1) (x + 1), ALq G b cap (delF f i), PV] (by rw [← delF_e hi hf, ← hg]; rfl) ?_
    exact ex_vret [ALo a b (len - 1) (x + 1), ALq G b cap (delF f i), PV] hG d_AL_fastRemove_43 rfl (by decide) (by decide) (eg_sub.of rfl) ⟨rfl, rfl⟩
  refine ex_icmp_le d_AL_fastRemove_19 (fun z => ?_) (fun z => ?_)
  · have z : ¬ i < len - 1 := by have := (nI_leI (by omega) (by omega)).mp z; omega
    exact J f (by rw [if_neg z])
  · have z : i < len - 1 := by
      rcases Nat.lt_or_ge i (len - 1) with y | y
      · exact y
      · exact absurd ((nI_leI (by omega) (by omega)).mpr y) z
    refine ex_al d_AL_fastRemove_22 rfl ?_
    refine ex_il d_AL_fastRemove_23 rfl ?_
    refine ex_k d_AL_fastRemove_24 ?_
    refine ex_iadd d_AL_fastRemove_25 ?_
    refine ex_al d_AL_fastRemove_26 rfl ?_
    refine ex_il d_AL_fastRemove_27 rfl ?_
    refine ex_il d_AL_fastRemove_28 rfl ?_
    refine ex_il d_AL_fastRemove_29 rfl ?_
    refine ex_isub d_AL_fastRemove_30 ?_
    refine ex_eqT [.int (nI (len - 1 - i)), .int (nI i), .ref b, .int (nI (i + 1)), .ref b] (by rw [nI_1, pk_sub (by omega)]) ?_
    refine ex_copy7 1 1 2 (d := 1) hR d_AL_fastRemove_31 ml_AL_112 rfl List.mem_cons_self rfl rfl (fun j _ y hy => hE _ y hy) hcl hca (by omega) (by omega) (by omega) (by omega) (Nat.le_of_ble_eq_true rfl) ?_
    exact J _ (by rw [if_pos z])
set_option maxRecDepth 100000 in
theorem c_AL_remove (l : Launch) (G : eg_G) (ci N : Nat) (C : String) (T : u_T) (hcl : classes[ci]? = some (C, T, N)) (hca : Cond.castable C "java/lang/Object" ∈ eg_ws) (PV : va_W) (a b len cap i : Nat) (hi : i < len) (hlc : len ≤ cap) (hcap : cap < 2 ^ 30) (x : Int32) (f : Nat → Option Nat) (hf : ∀ i, len ≤ i → f i = none) (hE : ∀ i y, f i = some y → ∃ fs, (y, .inr (ci, fs)) ∈ PV) : Ct l G y_AL_remove 3 0 0 [.ref a, .int (nI i)] [ALo a b len x, ALq G b cap f, PV] (rF (some (va_rf (f i))) [ALo a b (len - 1) (x + 1), ALq G b cap (delF f i), PV]) := by
  refine Ct.of cd_AL_remove (eg_catb rfl) (Nat.le_of_ble_eq_true rfl) ?_
  intro Γ hG
  have hR := hG.rm
  show Ex G Γ mu_AL_remove 0 [some (.ref a), some (.int (nI i)), none, none] [] [ALo a b len x, ALq G b cap f, PV] 0 0
  refine ex_il d_AL_remove_0 rfl ?_
  refine ex_al d_AL_remove_1 rfl ?_
  refine ex_get1 0 fl_AL_48 d_AL_remove_2 rfl rfl ?_
  refine ex_cP hR (c_Ob_checkIndex l G i len hi (by omega)) (eg_invS d_AL_remove_5 cd_Ob_checkIndex cx_AL_118 rfl rfl) cd_Ob_checkIndex (Nat.le_of_ble_eq_true rfl) (by decide) (by decide) (by decide) (by decide) rfl ?_
  refine ex_pop d_AL_remove_8 rfl ?_
  refine ex_al d_AL_remove_9 rfl ?_
  refine ex_get1 0 fl_AL_9 d_AL_remove_10 rfl rfl ?_
  refine ex_as d_AL_remove_13 (Nat.le_of_ble_eq_true rfl) ?_
  refine ex_al d_AL_remove_14 rfl ?_
  refine ex_il d_AL_remove_15 rfl ?_
  refine ex_ald71 1 d_AL_remove_16 rfl (ix_e (j := i) (by omega) rfl (by omega)) ?_
  refine ex_asq d_AL_remove_17 (Nat.le_of_ble_eq_true rfl) ?_
  refine ex_al d_AL_remove_18 rfl ?_
  refine ex_al d_AL_remove_19 rfl ?_
  refine ex_il d_AL_remove_20 rfl ?_
  refine ex_cV [0, 1, 2] hR (c_AL_fastRemove l G ci N C T hcl hca PV a b len cap i hi hlc hcap x f hf hE) (eg_invV 0 d_AL_remove_21 cd_AL_fastRemove cx_AL_144 rfl rfl List.mem_cons_self rfl rfl) cd_AL_fastRemove rfl rfl (Nat.le_of_ble_eq_true rfl) (by decide) (by decide) (by decide) (by decide) rfl ?_
  refine ex_alq d_AL_remove_24 rfl ?_
  exact ex_aret [ALo a b (len - 1) (x + 1), ALq G b cap (delF f i), PV] hG d_AL_remove_25 rfl (by first | exact Or.inl ⟨_, rfl⟩ | exact Or.inr ⟨_, rfl⟩) (by decide) (by decide) (eg_sub.of rfl) ⟨rfl, rfl⟩
