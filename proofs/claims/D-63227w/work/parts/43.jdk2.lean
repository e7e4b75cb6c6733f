/-! ARRAYLIST, 2: growing, adding -/
theorem eg_pick (ks : List Nat) {S S' : eg_S} (h : eg_ks S.length ks = true) (e : eg_pk S ks = S') : eg_sub S'.flatten S.flatten := ⟨(eg_cl S ks).flatten, by rw [← e]; exact (eg_split ks S h).symm⟩
theorem cpy_all {f : Nat → Option Nat} {c : Nat} (h : ∀ i, c ≤ i → f i = none) : va_cpy f (fun _ => none) 0 0 c = f := funext fun i => by
  rcases Nat.lt_or_ge i c with z | z
  · rw [pk_cpy_in (Nat.zero_le _) (by omega)]; congr 1; omega
  · rw [pk_cpy_out (by omega), h i z]
/-- the array part of a list: the shared empty array, or one of its own -/
def ALw (G : eg_G) (b len : Nat) (f : Nat → Option Nat) (q : va_W) : Prop := (q = [] ∧ b = G.2.2.2.1 ∧ len = 0) ∨ ∃ cap, q = ALq G b cap f ∧ cpO cap ∧ len ≤ cap
theorem cpO_lt {c : Nat} (h : cpO c) : 0 < c ∧ c < 34 := by rcases h with rfl | rfl | rfl | rfl <;> omega
set_option maxRecDepth 100000 in
theorem c_As_copyOf2 (l : Launch) (G : eg_G) (ci N : Nat) (C : String) (T : u_T) (hcl : classes[ci]? = some (C, T, N)) (hca : Cond.castable C "java/lang/Object" ∈ eg_ws) (PV : va_W) (P : va_W) (b cap m : Nat) (f : Nat → Option Nat) (hq : (b, .inl (eg_c G 7, cap, .inr (.inr (.inr (.inr f))))) ∈ P) (hm : cap < m) (hm2 : m < 100) (hf : ∀ i, cap ≤ i → f i = none) (hE : ∀ i y, f i = some y → ∃ fs, (y, .inr (ci, fs)) ∈ PV) : Ct l G y_As_copyOf2 2 1 100 [.ref b, .int (nI m), .ref G.2.2.2.2] [P, PV] (fun o S2 => ∃ b2, o = .inl (some (.ref b2)) ∧ S2 = [P, PV, ALq G b2 m f]) := by
  refine Ct.of cd_As_copyOf2 (eg_catb rfl) (Nat.le_of_ble_eq_true rfl) ?_
  intro Γ hG
  have hR := hG.rm
  show Ex G Γ mu_As_copyOf2 0 [some (.ref b), some (.int (nI m)), some (.ref G.2.2.2.2), none] [] [P, PV] 0 0
  refine ex_al d_As_copyOf2_0 rfl ?_
  refine ex_ldcM d_As_copyOf2_1 rfl kl_As_110 ?_
  refine ex_acmp_ne (rx := some _) (ry := some _) d_As_copyOf2_3 (fun h => absurd rfl h) (fun _ => ?_)
  refine ex_il d_As_copyOf2_6 rfl ?_
  refine ex_newq (N := m) (t := 7) hR d_As_copyOf2_7 kl_As_2 ao_7 rfl (nI_pos (by omega)) (nI_clamp (by omega)) (by omega) (by decide) (by omega) (fun q7 => ?_)
  refine ex_goto d_As_copyOf2_10 ?_
  refine ex_as d_As_copyOf2_24 (Nat.le_of_ble_eq_true rfl) ?_
  refine ex_al d_As_copyOf2_25 rfl ?_
  refine ex_k d_As_copyOf2_26 ?_
  refine ex_al d_As_copyOf2_27 rfl ?_
  refine ex_k d_As_copyOf2_28 ?_
  refine ex_al d_As_copyOf2_29 rfl ?_
  refine ex_alen 0 d_As_copyOf2_30 rfl hq rfl ?_
  refine ex_il d_As_copyOf2_31 rfl ?_
  refine ex_mmin (d := 1) hR d_As_copyOf2_32 ml_As_304 (Nat.le_of_ble_eq_true rfl) (by decide) (by omega) ?_
  refine ex_eqT [.int (nI cap), .int (nI 0), .ref q7, .int (nI 0), .ref b] (by rw [if_neg (nI_nlt (by omega) (by omega))]; rfl) ?_
  refine ex_copy7 0 2 1 (d := 1) hR d_As_copyOf2_35 ml_As_150 rfl hq rfl rfl (fun i _ y hy => hE _ y hy) hcl hca (by omega) (by omega) (by omega) (by omega) (Nat.le_of_ble_eq_true rfl) ?_
  refine ex_eqS [P, PV, ALq G q7 m f] (by rw [cpy_all hf]; rfl) ?_
  refine ex_al d_As_copyOf2_38 rfl ?_
  exact ex_aret [P, PV, ALq G q7 m f] (r := some q7) hG d_As_copyOf2_39 rfl (by first | exact Or.inl ⟨_, rfl⟩ | exact Or.inr ⟨_, rfl⟩) (by omega) (by omega) (eg_sub.of rfl) ⟨q7, rfl, rfl⟩
set_option maxRecDepth 100000 in
theorem c_As_copyOf1 (l : Launch) (G : eg_G) (ci N : Nat) (C : String) (T : u_T) (hcl : classes[ci]? = some (C, T, N)) (hca : Cond.castable C "java/lang/Object" ∈ eg_ws) (PV : va_W) (P : va_W) (b cap m : Nat) (f : Nat → Option Nat) (hq : (b, .inl (eg_c G 7, cap, .inr (.inr (.inr (.inr f))))) ∈ P) (hm : cap < m) (hm2 : m < 100) (hf : ∀ i, cap ≤ i → f i = none) (hE : ∀ i y, f i = some y → ∃ fs, (y, .inr (ci, fs)) ∈ PV) : Ct l G y_As_copyOf1 4 1 100 [.ref b, .int (nI m)] [P, PV] (fun o S2 => ∃ b2, o = .inl (some (.ref b2)) ∧ S2 = [P, PV, ALq G b2 m f]) := by
  refine Ct.of cd_As_copyOf1 (eg_catb rfl) (Nat.le_of_ble_eq_true rfl) ?_
  intro Γ hG
  have hR := hG.rm
  show Ex G Γ mu_As_copyOf1 0 [some (.ref b), some (.int (nI m))] [] [P, PV] 0 0
  refine ex_al d_As_copyOf1_0 rfl ?_
  refine ex_il d_As_copyOf1_1 rfl ?_
  refine ex_al d_As_copyOf1_2 rfl ?_
  refine ex_getC 0 (d := 3) hR d_As_copyOf1_3 ml_As_86 rfl hq (Nat.le_of_ble_eq_true rfl) ?_
  refine ex_call [0, 1] hR (c_As_copyOf2 l G ci N C T hcl hca PV P b cap m f hq hm hm2 hf hE) (eg_invS d_As_copyOf1_6 cd_As_copyOf2 cx_As_300 rfl rfl) cd_As_copyOf2 rfl rfl (Nat.le_of_ble_eq_true rfl) (by decide) (by decide) (by decide) (by decide) (fun v S1 hK1 => ?_) (fun E S1 hK1 => ?_)
  · skip
    obtain ⟨b2, h1, rfl⟩ := hK1
    cases h1
    refine ex_eqT [.ref b2] rfl ?_
    exact ex_aret [P, PV, ALq G b2 m f] (r := some b2) hG d_As_copyOf1_9 rfl (by first | exact Or.inl ⟨_, rfl⟩ | exact Or.inr ⟨_, rfl⟩) (by decide) (by decide) (eg_sub.of rfl) ⟨b2, rfl, rfl⟩
  · skip
    obtain ⟨b2, h1, -⟩ := hK1
    cases h1
set_option maxRecDepth 100000 in
theorem c_AL_grow1E (l : Launch) (G : eg_G) (a : Nat) (x : Int32) : Ct l G y_AL_grow1 2 1 10 [.ref a, .int (nI 1)] [ALo a G.2.2.2.1 0 x] (fun o S2 => ∃ b2, o = .inl (some (.ref b2)) ∧ S2 = [ALo a b2 0 x, ALq G b2 10 (fun _ => none)]) := by
  refine Ct.of cd_AL_grow1 (eg_catb rfl) (Nat.le_of_ble_eq_true rfl) ?_
  intro Γ hG
  have hR := hG.rm
  show Ex G Γ mu_AL_grow1 0 [some (.ref a), some (.int (nI 1)), none, none] [] [ALo a G.2.2.2.1 0 x] 0 0
  refine ex_al d_AL_grow1_0 rfl ?_
  refine ex_get1 0 fl_AL_9 d_AL_grow1_1 rfl rfl ?_
  refine ex_tlen d_AL_grow1_4 ?_
  refine ex_is d_AL_grow1_5 (Nat.le_of_ble_eq_true rfl) ?_
  refine ex_il d_AL_grow1_6 rfl ?_
  refine ex_if_gt d_AL_grow1_7 (fun z => absurd z (by decide)) (fun _ => ?_)
  refine ex_al d_AL_grow1_10 rfl ?_
  refine ex_get1 0 fl_AL_9 d_AL_grow1_11 rfl rfl ?_
  refine ex_dce (by decide +kernel) d_AL_grow1_14 ?_
  refine ex_acmp_eq (rx := some _) (ry := some _) d_AL_grow1_17 (fun _ => ?_) (fun h => absurd rfl h)
  refine ex_al d_AL_grow1_45 rfl ?_
  refine ex_k d_AL_grow1_46 ?_
  refine ex_il d_AL_grow1_48 rfl ?_
  refine ex_mmax (d := 1) hR d_AL_grow1_49 ml_AL_79 (Nat.le_of_ble_eq_true rfl) (by decide) (by decide) ?_
  refine ex_eqT [.int (nI 10), .ref a] rfl ?_
  refine ex_newq (N := 10) (t := 7) hR d_AL_grow1_52 kl_AL_7 ao_7 rfl (by decide) (by decide) (by decide) (by decide) (by decide) (fun q => ?_)
  refine ex_dup_x1 d_AL_grow1_55 rfl rfl ?_
  refine ex_put1 0 wl_AL_9 d_AL_grow1_56 rfl rfl rfl (Nat.le_of_ble_eq_true rfl) ?_
  exact ex_aret [ALo a q 0 x, ALq G q 10 (fun _ => none)] (r := some q) hG d_AL_grow1_59 rfl (by first | exact Or.inl ⟨_, rfl⟩ | exact Or.inr ⟨_, rfl⟩) (by decide) (by decide) (eg_sub.of rfl) ⟨q, rfl, rfl⟩
set_option maxRecDepth 100000 in
theorem c_AL_grow1 (l : Launch) (G : eg_G) (ci N : Nat) (C : String) (T : u_T) (hcl : classes[ci]? = some (C, T, N)) (hca : Cond.castable C "java/lang/Object" ∈ eg_ws) (PV : va_W) (a b cap : Nat) (x : Int32) (f : Nat → Option Nat) (hcp : cpO cap) (hc3 : cap < 33) (hf : ∀ i, cap ≤ i → f i = none) (hE : ∀ i y, f i = some y → ∃ fs, (y, .inr (ci, fs)) ∈ PV) : Ct l G y_AL_grow1 6 1 100 [.ref a, .int (nI (cap + 1))] [ALo a b cap x, ALq G b cap f, PV] (fun o S2 => ∃ b2, o = .inl (some (.ref b2)) ∧ S2 = [ALo a b2 cap x, ALq G b2 (cap + cap / 2) f, PV]) := by
  refine Ct.of cd_AL_grow1 (eg_catb rfl) (Nat.le_of_ble_eq_true rfl) ?_
  intro Γ hG
  have hR := hG.rm
  show Ex G Γ mu_AL_grow1 0 [some (.ref a), some (.int (nI (cap + 1))), none, none] [] [ALo a b cap x, ALq G b cap f, PV] 0 0
  obtain ⟨hc1, hc2⟩ := cp_new hcp hc3
  refine ex_al d_AL_grow1_0 rfl ?_
  refine ex_get1 0 fl_AL_9 d_AL_grow1_1 rfl rfl ?_
  refine ex_alen 1 d_AL_grow1_4 rfl List.mem_cons_self rfl ?_
  refine ex_is d_AL_grow1_5 (Nat.le_of_ble_eq_true rfl) ?_
  refine ex_il d_AL_grow1_6 rfl ?_
  refine ex_if_gt d_AL_grow1_7 (fun _ => ?_) (fun z => absurd (nI_lt (a := 0) (b := cap) (by omega) (by omega)) z)
  refine ex_il d_AL_grow1_20 rfl ?_
  refine ex_il d_AL_grow1_21 rfl ?_
  refine ex_il d_AL_grow1_22 rfl ?_
  refine ex_isub d_AL_grow1_23 ?_
  refine ex_il d_AL_grow1_24 rfl ?_
  refine ex_k d_AL_grow1_25 ?_
  refine ex_ishr d_AL_grow1_26 ?_
  refine ex_eqT [.int (nI (cap / 2)), .int (nI 1), .int (nI cap)] (by show [Value.int (nI cap >>> _), .int (nI (cap + 1) - nI cap), _] = _; rw [pk_sub (by omega), show cap + 1 - cap = 1 by omega, pk_shrN (by omega) _ 1 (by decide)]) ?_
  refine ex_cP hR (c_Su_newLength l G cap hcp hc3) (eg_invS d_AL_grow1_27 cd_Su_newLength cx_AL_73 rfl rfl) cd_Su_newLength (Nat.le_of_ble_eq_true rfl) (by decide) (by decide) (by decide) (by decide) rfl ?_
  refine ex_is d_AL_grow1_30 (Nat.le_of_ble_eq_true rfl) ?_
  refine ex_al d_AL_grow1_31 rfl ?_
  refine ex_al d_AL_grow1_32 rfl ?_
  refine ex_get1 0 fl_AL_9 d_AL_grow1_33 rfl rfl ?_
  refine ex_il d_AL_grow1_36 rfl ?_
  refine ex_call [1, 2] hR (c_As_copyOf1 l G ci N C T hcl hca PV (ALq G b cap f) b cap (cap + cap / 2) f List.mem_cons_self (by omega) (by omega) hf hE) (eg_invS d_AL_grow1_37 cd_As_copyOf1 cx_AL_66 rfl rfl) cd_As_copyOf1 rfl rfl (Nat.le_of_ble_eq_true rfl) (by decide) (by decide) (by decide) (by decide) (fun v S1 hK1 => ?_) (fun E S1 hK1 => ?_)
  · obtain ⟨b2, h1, rfl⟩ := hK1
    cases h1
    refine ex_eqT [.ref b2, .ref a] rfl ?_
    refine ex_eqS [ALo a b cap x, ALq G b cap f, PV, ALq G b2 (cap + cap / 2) f] rfl ?_
    refine ex_dup_x1 d_AL_grow1_40 rfl rfl ?_
    refine ex_put1 0 wl_AL_9 d_AL_grow1_41 rfl rfl rfl (Nat.le_of_ble_eq_true rfl) ?_
    refine ex_eqS [ALo a b2 cap x, ALq G b cap f, PV, ALq G b2 (cap + cap / 2) f] rfl ?_
    exact ex_aret [ALo a b2 cap x, ALq G b2 (cap + cap / 2) f, PV] (r := some b2) hG d_AL_grow1_44 rfl (by first | exact Or.inl ⟨_, rfl⟩ | exact Or.inr ⟨_, rfl⟩) (by decide) (by decide) (eg_pick [0, 3, 2] rfl rfl) ⟨b2, rfl, rfl⟩
  · obtain ⟨b2, h1, -⟩ := hK1
    cases h1
set_option maxRecDepth 100000 in
theorem c_AL_grow0E (l : Launch) (G : eg_G) (a : Nat) (x : Int32) : Ct l G y_AL_grow0 3 1 10 [.ref a] [ALo a G.2.2.2.1 0 x] (fun o S2 => ∃ b2, o = .inl (some (.ref b2)) ∧ S2 = [ALo a b2 0 x, ALq G b2 10 (fun _ => none)]) := by
  refine Ct.of cd_AL_grow0 (eg_catb rfl) (Nat.le_of_ble_eq_true rfl) ?_
  intro Γ hG
  have hR := hG.rm
  show Ex G Γ mu_AL_grow0 0 [some (.ref a)] [] [ALo a G.2.2.2.1 0 x] 0 0
  refine ex_al d_AL_grow0_0 rfl ?_
  refine ex_al d_AL_grow0_1 rfl ?_
  refine ex_get1 0 fl_AL_48 d_AL_grow0_2 rfl rfl ?_
  refine ex_k d_AL_grow0_5 ?_
  refine ex_iadd d_AL_grow0_6 ?_
  rw [nI_1]
  refine ex_call [0] hR (c_AL_grow1E l G a x) (eg_invV 0 d_AL_grow0_7 cd_AL_grow1 cx_AL_69 rfl rfl List.mem_cons_self rfl rfl) cd_AL_grow1 rfl rfl (Nat.le_of_ble_eq_true rfl) (by decide) (by decide) (by decide) (by decide) (fun v S1 hK1 => ?_) (fun E S1 hK1 => ?_)
  · obtain ⟨b2, h1, rfl⟩ := hK1
    cases h1
    refine ex_eqT [.ref b2] rfl ?_
    refine ex_eqS [ALo a b2 0 x, ALq G b2 10 (fun _ => none)] rfl ?_
    exact ex_aret [ALo a b2 0 x, ALq G b2 10 (fun _ => none)] (r := some b2) hG d_AL_grow0_10 rfl (by first | exact Or.inl ⟨_, rfl⟩ | exact Or.inr ⟨_, rfl⟩) (by decide) (by decide) (eg_sub.of rfl) ⟨b2, rfl, rfl⟩
  · obtain ⟨b2, h1, -⟩ := hK1
    cases h1
set_option maxRecDepth 100000 in
theorem c_AL_grow0 (l : Launch) (G : eg_G) (ci N : Nat) (C : String) (T : u_T) (hcl : classes[ci]? = some (C, T, N)) (hca : Cond.castable C "java/lang/Object" ∈ eg_ws) (PV : va_W) (a b cap : Nat) (x : Int32) (f : Nat → Option Nat) (hcp : cpO cap) (hc3 : cap < 33) (hf : ∀ i, cap ≤ i → f i = none) (hE : ∀ i y, f i = some y → ∃ fs, (y, .inr (ci, fs)) ∈ PV) : Ct l G y_AL_grow0 7 1 100 [.ref a] [ALo a b cap x, ALq G b cap f, PV] (fun o S2 => ∃ b2, o = .inl (some (.ref b2)) ∧ S2 = [ALo a b2 cap x, ALq G b2 (cap + cap / 2) f, PV]) := by
  refine Ct.of cd_AL_grow0 (eg_catb rfl) (Nat.le_of_ble_eq_true rfl) ?_
  intro Γ hG
  have hR := hG.rm
  show Ex G Γ mu_AL_grow0 0 [some (.ref a)] [] [ALo a b cap x, ALq G b cap f, PV] 0 0
  refine ex_al d_AL_grow0_0 rfl ?_
  refine ex_al d_AL_grow0_1 rfl ?_
  refine ex_get1 0 fl_AL_48 d_AL_grow0_2 rfl rfl ?_
  refine ex_k d_AL_grow0_5 ?_
  refine ex_iadd d_AL_grow0_6 ?_
  rw [nI_1]
  refine ex_call [0, 1, 2] hR (c_AL_grow1 l G ci N C T hcl hca PV a b cap x f hcp hc3 hf hE) (eg_invV 0 d_AL_grow0_7 cd_AL_grow1 cx_AL_69 rfl rfl List.mem_cons_self rfl rfl) cd_AL_grow1 rfl rfl (Nat.le_of_ble_eq_true rfl) (by decide) (by decide) (by decide) (by decide) (fun v S1 hK1 => ?_) (fun E S1 hK1 => ?_)
  · obtain ⟨b2, h1, rfl⟩ := hK1
    cases h1
    refine ex_eqT [.ref b2] rfl ?_
    refine ex_eqS [ALo a b2 cap x, ALq G b2 (cap + cap / 2) f, PV] rfl ?_
    exact ex_aret [ALo a b2 cap x, ALq G b2 (cap + cap / 2) f, PV] (r := some b2) hG d_AL_grow0_10 rfl (by first | exact Or.inl ⟨_, rfl⟩ | exact Or.inr ⟨_, rfl⟩) (by decide) (by decide) (eg_sub.of rfl) ⟨b2, rfl, rfl⟩
  · obtain ⟨b2, h1, -⟩ := hK1
    cases h1
