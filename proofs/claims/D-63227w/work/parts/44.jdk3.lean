/-! ARRAYLIST, 3: adding, removing -/
def insF (f : Nat → Option Nat) (i y : Nat) : Nat → Option Nat := fun j => if j < i then f j else if j = i then some y else f (j - 1)
def delF (f : Nat → Option Nat) (i : Nat) : Nat → Option Nat := fun j => if j < i then f j else f (j + 1)
theorem insF_e {f : Nat → Option Nat} {i y len : Nat} (hi : i ≤ len) (hf : ∀ j, len ≤ j → f j = none) : va_up (va_cpy f f i (i + 1) (len - i)) i (some y) = insF f i y := funext fun j => by
  unfold insF
  by_cases h : j = i
  · rw [h, va_up_self, if_neg (by omega), if_pos rfl]
  · rw [va_up_ne _ _ h]
    by_cases h1 : j < i
    · rw [if_pos h1, pk_cpy_out (by omega)]
    · rw [if_neg h1, if_neg h]
      by_cases h2 : j < i + 1 + (len - i)
      · rw [pk_cpy_in (by omega) h2]; congr 1; omega
      · rw [pk_cpy_out (by omega), hf j (by omega), hf (j - 1) (by omega)]
theorem delF_e {f : Nat → Option Nat} {i len : Nat} (hi : i < len) (hf : ∀ j, len ≤ j → f j = none) : va_up (if i < len - 1 then va_cpy f f (i + 1) i (len - 1 - i) else f) (len - 1) none = delF f i := funext fun j => by
  unfold delF
  by_cases h : j = len - 1
  · rw [h, va_up_self, if_neg (by omega), hf _ (by omega)]
  · rw [va_up_ne _ _ h]
    by_cases h0 : i < len - 1
    · rw [if_pos h0]
      by_cases h1 : j < i
      · rw [if_pos h1, pk_cpy_out (by omega)]
      · rw [if_neg h1]
        by_cases h2 : j < len - 1
        · rw [pk_cpy_in (by omega) (by omega)]; congr 1; omega
        · rw [pk_cpy_out (by omega), hf j (by omega), hf (j + 1) (by omega)]
    · rw [if_neg h0]
      by_cases h1 : j < i
      · rw [if_pos h1]
      · rw [if_neg h1, hf j (by omega), hf (j + 1) (by omega)]
set_option maxRecDepth 100000 in
theorem c_AL_add2E (l : Launch) (G : eg_G) (ci N : Nat) (C : String) (T : u_T) (hcl : classes[ci]? = some (C, T, N)) (hca : Cond.castable C "java/lang/Object" ∈ eg_ws) (PV : va_W) (a : Nat) (x : Int32) (y : Nat) (ys : List Value) (hy : (y, .inr (ci, ys)) ∈ PV) : Ct l G y_AL_add2 8 1 100 [.ref a, .ref y, .ref G.2.2.2.1, .int (nI 0)] [ALo a G.2.2.2.1 0 x, [], PV] (fun o S2 => ∃ b2 q2, o = .inl none ∧ S2 = [ALo a b2 (0 + 1) x, q2, PV] ∧ ALw G b2 (0 + 1) (va_up (fun _ => none) 0 (some y)) q2) := by
  refine Ct.of cd_AL_add2 (eg_catb rfl) (Nat.le_of_ble_eq_true rfl) ?_
  intro Γ hG
  have hR := hG.rm
  show Ex G Γ mu_AL_add2 0 [some (.ref a), some (.ref y), some (.ref G.2.2.2.1), some (.int (nI 0))] [] [ALo a G.2.2.2.1 0 x, [], PV] 0 0
  refine ex_il d_AL_add2_0 rfl ?_
  refine ex_al d_AL_add2_1 rfl ?_
  refine ex_tlen d_AL_add2_2 ?_
  refine ex_icmp_ne d_AL_add2_3 (fun z => absurd rfl z) (fun _ => ?_)
  refine ex_al d_AL_add2_6 rfl ?_
  refine ex_call [0] hR (c_AL_grow0E l G a x) (eg_invV 0 d_AL_add2_7 cd_AL_grow0 cx_AL_129 rfl rfl List.mem_cons_self rfl rfl) cd_AL_grow0 rfl rfl (Nat.le_of_ble_eq_true rfl) (by decide) (by decide) (by decide) (by decide) (fun v S1 hK1 => ?_) (fun E S1 hK1 => ?_)
  rotate_left
  · obtain ⟨b2, h1, -⟩ := hK1
    cases h1
  obtain ⟨b2, h1, rfl⟩ := hK1
  cases h1
  refine ex_eqT [.ref b2] rfl ?_
  refine ex_eqS [ALo a b2 0 x, [], PV, ALq G b2 10 (fun _ => none)] rfl ?_
  refine ex_as d_AL_add2_10 (Nat.le_of_ble_eq_true rfl) ?_
  refine ex_al d_AL_add2_11 rfl ?_
  refine ex_il d_AL_add2_12 rfl ?_
  refine ex_al d_AL_add2_13 rfl ?_
  refine ex_ast7 3 2 d_AL_add2_14 rfl (ix_e (j := 0) (by omega) rfl (by omega)) rfl hy hcl (Or.inr hca) ?_
  refine ex_eqS [ALo a b2 0 x, [], PV, ALq G b2 10 (va_up (fun _ => none) 0 (some y))] rfl ?_
  refine ex_al d_AL_add2_15 rfl ?_
  refine ex_il d_AL_add2_16 rfl ?_
  refine ex_k d_AL_add2_17 ?_
  refine ex_iadd d_AL_add2_18 ?_
  rw [nI_1]
  refine ex_put1 0 wl_AL_48 d_AL_add2_19 rfl rfl rfl (Nat.le_of_ble_eq_true rfl) ?_
  refine ex_eqS [ALo a b2 (0 + 1) x, [], PV, ALq G b2 10 (va_up (fun _ => none) 0 (some y))] rfl ?_
  exact ex_vret [ALo a b2 (0 + 1) x, ALq G b2 10 (va_up (fun _ => none) 0 (some y)), PV] hG d_AL_add2_22 rfl (by decide) (by decide) (eg_pick [0, 3, 2] rfl rfl) ⟨_, _, rfl, rfl, Or.inr ⟨10, rfl, Or.inl rfl, by omega⟩⟩
set_option maxRecDepth 100000 in
theorem c_AL_add2N (l : Launch) (G : eg_G) (ci N : Nat) (C : String) (T : u_T) (hcl : classes[ci]? = some (C, T, N)) (hca : Cond.castable C "java/lang/Object" ∈ eg_ws) (PV : va_W) (a b len cap : Nat) (x : Int32) (f : Nat → Option Nat) (hcp : cpO cap) (hlt : len < cap) (y : Nat) (ys : List Value) (hy : (y, .inr (ci, ys)) ∈ PV) : Ct l G y_AL_add2 8 1 100 [.ref a, .ref y, .ref b, .int (nI len)] [ALo a b len x, ALq G b cap f, PV] (fun o S2 => ∃ b2 q2, o = .inl none ∧ S2 = [ALo a b2 (len + 1) x, q2, PV] ∧ ALw G b2 (len + 1) (va_up f len (some y)) q2) := by
  refine Ct.of cd_AL_add2 (eg_catb rfl) (Nat.le_of_ble_eq_true rfl) ?_
  intro Γ hG
  have hR := hG.rm
  show Ex G Γ mu_AL_add2 0 [some (.ref a), some (.ref y), some (.ref b), some (.int (nI len))] [] [ALo a b len x, ALq G b cap f, PV] 0 0
  have hcl2 := cpO_lt hcp
  refine ex_il d_AL_add2_0 rfl ?_
  refine ex_al d_AL_add2_1 rfl ?_
  refine ex_alen 1 d_AL_add2_2 rfl List.mem_cons_self rfl ?_
  refine ex_icmp_ne d_AL_add2_3 (fun _ => ?_) (fun z => absurd ((nI_eq (by omega) (by omega)).mp (show nI len = nI cap from z)) (by omega))
  refine ex_al d_AL_add2_11 rfl ?_
  refine ex_il d_AL_add2_12 rfl ?_
  refine ex_al d_AL_add2_13 rfl ?_
  refine ex_ast7 1 2 d_AL_add2_14 rfl (ix_e (j := len) (by omega) rfl (by omega)) rfl hy hcl (Or.inr hca) ?_
  refine ex_eqS [ALo a b len x, ALq G b cap (va_up f len (some y)), PV] rfl ?_
  refine ex_al d_AL_add2_15 rfl ?_
  refine ex_il d_AL_add2_16 rfl ?_
  refine ex_k d_AL_add2_17 ?_
  refine ex_iadd d_AL_add2_18 ?_
  rw [nI_1]
  refine ex_put1 0 wl_AL_48 d_AL_add2_19 rfl rfl rfl (Nat.le_of_ble_eq_true rfl) ?_
  refine ex_eqS [ALo a b (len + 1) x, ALq G b cap (va_up f len (some y)), PV] rfl ?_
  exact ex_vret [ALo a b (len + 1) x, ALq G b cap (va_up f len (some y)), PV] hG d_AL_add2_22 rfl (by decide) (by decide) (eg_sub.of rfl) ⟨_, _, rfl, rfl, Or.inr ⟨cap, rfl, hcp, by omega⟩⟩
set_option maxRecDepth 100000 in
theorem c_AL_add2F (l : Launch) (G : eg_G) (ci N : Nat) (C : String) (T : u_T) (hcl : classes[ci]? = some (C, T, N)) (hca : Cond.castable C "java/lang/Object" ∈ eg_ws) (PV : va_W) (a b cap : Nat) (x : Int32) (f : Nat → Option Nat) (hcp : cpO cap) (hc3 : cap < 33) (hf : ∀ i, cap ≤ i → f i = none) (hE : ∀ i y, f i = some y → ∃ fs, (y, .inr (ci, fs)) ∈ PV) (y : Nat) (ys : List Value) (hy : (y, .inr (ci, ys)) ∈ PV) : Ct l G y_AL_add2 8 1 100 [.ref a, .ref y, .ref b, .int (nI cap)] [ALo a b cap x, ALq G b cap f, PV] (fun o S2 => ∃ b2 q2, o = .inl none ∧ S2 = [ALo a b2 (cap + 1) x, q2, PV] ∧ ALw G b2 (cap + 1) (va_up f cap (some y)) q2) := by
  refine Ct.of cd_AL_add2 (eg_catb rfl) (Nat.le_of_ble_eq_true rfl) ?_
  intro Γ hG
  have hR := hG.rm
  show Ex G Γ mu_AL_add2 0 [some (.ref a), some (.ref y), some (.ref b), some (.int (nI cap))] [] [ALo a b cap x, ALq G b cap f, PV] 0 0
  have hcl2 := cpO_lt hcp
  obtain ⟨hc1, hc2⟩ := cp_new hcp hc3
  refine ex_il d_AL_add2_0 rfl ?_
  refine ex_al d_AL_add2_1 rfl ?_
  refine ex_alen 1 d_AL_add2_2 rfl List.mem_cons_self rfl ?_
  refine ex_icmp_ne d_AL_add2_3 (fun z => absurd rfl z) (fun _ => ?_)
  refine ex_al d_AL_add2_6 rfl ?_
  refine ex_call [0, 1, 2] hR (c_AL_grow0 l G ci N C T hcl hca PV a b cap x f hcp hc3 hf hE) (eg_invV 0 d_AL_add2_7 cd_AL_grow0 cx_AL_129 rfl rfl List.mem_cons_self rfl rfl) cd_AL_grow0 rfl rfl (Nat.le_of_ble_eq_true rfl) (by decide) (by decide) (by decide) (by decide) (fun v S1 hK1 => ?_) (fun E S1 hK1 => ?_)
  rotate_left
  · obtain ⟨b2, h1, -⟩ := hK1
    cases h1
  obtain ⟨b2, h1, rfl⟩ := hK1
  cases h1
  refine ex_eqT [.ref b2] rfl ?_
  refine ex_eqS [ALo a b2 cap x, ALq G b2 (cap + cap / 2) f, PV] rfl ?_
  refine ex_as d_AL_add2_10 (Nat.le_of_ble_eq_true rfl) ?_
  refine ex_al d_AL_add2_11 rfl ?_
  refine ex_il d_AL_add2_12 rfl ?_
  refine ex_al d_AL_add2_13 rfl ?_
  refine ex_ast7 1 2 d_AL_add2_14 rfl (ix_e (j := cap) (by omega) rfl (by omega)) rfl hy hcl (Or.inr hca) ?_
  refine ex_eqS [ALo a b2 cap x, ALq G b2 (cap + cap / 2) (va_up f cap (some y)), PV] rfl ?_
  refine ex_al d_AL_add2_15 rfl ?_
  refine ex_il d_AL_add2_16 rfl ?_
  refine ex_k d_AL_add2_17 ?_
  refine ex_iadd d_AL_add2_18 ?_
  rw [nI_1]
  refine ex_put1 0 wl_AL_48 d_AL_add2_19 rfl rfl rfl (Nat.le_of_ble_eq_true rfl) ?_
  refine ex_eqS [ALo a b2 (cap + 1) x, ALq G b2 (cap + cap / 2) (va_up f cap (some y)), PV] rfl ?_
  exact ex_vret [ALo a b2 (cap + 1) x, ALq G b2 (cap + cap / 2) (va_up f cap (some y)), PV] hG d_AL_add2_22 rfl (by decide) (by decide) (eg_sub.of rfl) ⟨_, _, rfl, rfl, Or.inr ⟨(cap + cap / 2), rfl, hc1, by omega⟩⟩
theorem c_AL_add2 (l : Launch) (G : eg_G) (ci N : Nat) (C : String) (T : u_T) (hcl : classes[ci]? = some (C, T, N)) (hca : Cond.castable C "java/lang/Object" ∈ eg_ws) (PV : va_W) (a b len : Nat) (x : Int32) (f : Nat → Option Nat) (q : va_W) (hw : ALw G b len f q) (hl3 : len < 33) (hf : ∀ i, len ≤ i → f i = none) (hE : ∀ i y, f i = some y → ∃ fs, (y, .inr (ci, fs)) ∈ PV) (y : Nat) (ys : List Value) (hy : (y, .inr (ci, ys)) ∈ PV) : Ct l G y_AL_add2 8 1 100 [.ref a, .ref y, .ref b, .int (nI len)] [ALo a b len x, q, PV] (fun o S2 => ∃ b2 q2, o = .inl none ∧ S2 = [ALo a b2 (len + 1) x, q2, PV] ∧ ALw G b2 (len + 1) (va_up f len (some y)) q2) := by
  rcases hw with ⟨rfl, rfl, rfl⟩ | ⟨cap, rfl, hcp, hle⟩
  · obtain rfl : f = fun _ => none := funext fun i => hf i (Nat.zero_le _)
    exact c_AL_add2E l G ci N C T hcl hca PV a x y ys hy
  · rcases Nat.lt_or_ge len cap with z | z
    · exact c_AL_add2N l G ci N C T hcl hca PV a b len cap x f hcp z y ys hy
    · obtain rfl : cap = len := by omega
      exact c_AL_add2F l G ci N C T hcl hca PV a b cap x f hcp hl3 hf hE y ys hy
set_option maxRecDepth 100000 in
theorem c_AL_add1 (l : Launch) (G : eg_G) (ci N : Nat) (C : String) (T : u_T) (hcl : classes[ci]? = some (C, T, N)) (hca : Cond.castable C "java/lang/Object" ∈ eg_ws) (PV : va_W) (a b len : Nat) (x : Int32) (f : Nat → Option Nat) (q : va_W) (hw : ALw G b len f q) (hl3 : len < 33) (hf : ∀ i, len ≤ i → f i = none) (hE : ∀ i y, f i = some y → ∃ fs, (y, .inr (ci, fs)) ∈ PV) (y : Nat) (ys : List Value) (hy : (y, .inr (ci, ys)) ∈ PV) : Ct l G y_AL_add1 9 1 100 [.ref a, .ref y] [ALo a b len x, q, PV] (fun o S2 => ∃ b2 q2, o = .inl (some (.int 1)) ∧ S2 = [ALo a b2 (len + 1) (x + 1), q2, PV] ∧ ALw G b2 (len + 1) (va_up f len (some y)) q2) := by
  refine Ct.of cd_AL_add1 (eg_catb rfl) (Nat.le_of_ble_eq_true rfl) ?_
  intro Γ hG
  have hR := hG.rm
  show Ex G Γ mu_AL_add1 0 [some (.ref a), some (.ref y)] [] [ALo a b len x, q, PV] 0 0
  refine ex_al d_AL_add1_0 rfl ?_
  refine ex_dup d_AL_add1_1 rfl ?_
  refine ex_get1 0 fl_AL_63 d_AL_add1_2 rfl rfl ?_
  refine ex_k d_AL_add1_5 ?_
  refine ex_iadd d_AL_add1_6 ?_
  refine ex_put1 0 wl_AL_63 d_AL_add1_7 rfl rfl rfl (Nat.le_of_ble_eq_true rfl) ?_
  refine ex_eqS [ALo a b len (x + 1), q, PV] rfl ?_
  refine ex_al d_AL_add1_10 rfl ?_
  refine ex_al d_AL_add1_11 rfl ?_
  refine ex_al d_AL_add1_12 rfl ?_
  refine ex_get1 0 fl_AL_9 d_AL_add1_13 rfl rfl ?_
  refine ex_al d_AL_add1_16 rfl ?_
  refine ex_get1 0 fl_AL_48 d_AL_add1_17 rfl rfl ?_
  refine ex_call [0, 1, 2] hR (c_AL_add2 l G ci N C T hcl hca PV a b len (x + 1) f q hw hl3 hf hE y ys hy) (eg_invV 0 d_AL_add1_20 cd_AL_add2 cx_AL_131 rfl rfl List.mem_cons_self rfl rfl) cd_AL_add2 rfl rfl (Nat.le_of_ble_eq_true rfl) (by decide) (by decide) (by decide) (by decide) (fun v S1 hK1 => ?_) (fun E S1 hK1 => ?_)
  rotate_left
  · obtain ⟨b2, q2, h1, -⟩ := hK1
    cases h1
  obtain ⟨b2, q2, h1, rfl, hw2⟩ := hK1
  cases h1
  refine ex_k d_AL_add1_23 ?_
  exact ex_iret [ALo a b2 (len + 1) (x + 1), q2, PV] hG d_AL_add1_24 rfl rfl (by decide) (by decide) (eg_sub.of rfl) ⟨b2, q2, rfl, rfl, hw2⟩
