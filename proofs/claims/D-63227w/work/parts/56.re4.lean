/-! THE READER, 4: a new one; needs of a module -/
set_option maxRecDepth 100000 in
theorem c_Re_init (l : Launch) (G : eg_G) (h tp t : Nat) : Ct l G y_Re_init 5 3 9 [.ref h, .ref tp, .int (nI t)] [[(h, .inr (11, [.null, .int 0, .int 0, .null, .int 0, .int 0, .int 0, .null, .null, .null]))]] (fun o S2 => ∃ la lb lc, o = .inl none ∧ S2 = [RO h tp t 0 .null 0 0 0 la lb lc, ALo la G.2.2.2.1 0 0, ALo lb G.2.2.2.1 0 0, ALo lc G.2.2.2.1 0 0]) := by
  refine Ct.of cd_Re_init (eg_catb rfl) (Nat.le_of_ble_eq_true rfl) ?_
  intro Γ hG
  have hR := hG.rm
  show Ex G Γ mu_Re_init 0 [some (.ref h), some (.ref tp), some (.int (nI t))] [] [[(h, .inr (11, [.null, .int 0, .int 0, .null, .int 0, .int 0, .int 0, .null, .null, .null]))]] 0 0
  refine ex_al d_Re_init_0 rfl ?_
  refine ex_oinit hR d_Re_init_1 ol_Re_3 oi_inst oi_code (Nat.le_of_ble_eq_true rfl) ?_
  refine ex_al d_Re_init_4 rfl ?_
  refine ex_new hR nw_Re_9 d_Re_init_5 (by decide) (by decide) (fun la => ?_)
  refine ex_dup d_Re_init_8 rfl ?_
  refine ex_cV [1] hR (c_AL_init l G la) (eg_invI d_Re_init_9 cd_AL_init rfl rfl tw_254 cx_Re_11 rfl rfl) cd_AL_init rfl rfl (Nat.le_of_ble_eq_true rfl) (by decide) (by decide) (by decide) (by decide) rfl ?_
  refine ex_put1 0 wl_Re_12 d_Re_init_12 rfl rfl rfl (Nat.le_of_ble_eq_true rfl) ?_
  refine ex_eqS [[(h, .inr (11, [.null, .int 0, .int 0, .null, .int 0, .int 0, .int 0, .ref la, .null, .null]))], ALo la G.2.2.2.1 0 0] rfl ?_
  refine ex_al d_Re_init_15 rfl ?_
  refine ex_new hR nw_Re_9 d_Re_init_16 (by decide) (by decide) (fun lb => ?_)
  refine ex_dup d_Re_init_19 rfl ?_
  refine ex_cV [2] hR (c_AL_init l G lb) (eg_invI d_Re_init_20 cd_AL_init rfl rfl tw_254 cx_Re_11 rfl rfl) cd_AL_init rfl rfl (Nat.le_of_ble_eq_true rfl) (by decide) (by decide) (by decide) (by decide) rfl ?_
  refine ex_put1 0 wl_Re_18 d_Re_init_23 rfl rfl rfl (Nat.le_of_ble_eq_true rfl) ?_
  refine ex_eqS [[(h, .inr (11, [.null, .int 0, .int 0, .null, .int 0, .int 0, .int 0, .ref la, .ref lb, .null]))], ALo la G.2.2.2.1 0 0, ALo lb G.2.2.2.1 0 0] rfl ?_
  refine ex_al d_Re_init_26 rfl ?_
  refine ex_new hR nw_Re_9 d_Re_init_27 (by decide) (by decide) (fun lc => ?_)
  refine ex_dup d_Re_init_30 rfl ?_
  refine ex_cV [3] hR (c_AL_init l G lc) (eg_invI d_Re_init_31 cd_AL_init rfl rfl tw_254 cx_Re_11 rfl rfl) cd_AL_init rfl rfl (Nat.le_of_ble_eq_true rfl) (by decide) (by decide) (by decide) (by decide) rfl ?_
  refine ex_put1 0 wl_Re_21 d_Re_init_34 rfl rfl rfl (Nat.le_of_ble_eq_true rfl) ?_
  refine ex_eqS [[(h, .inr (11, [.null, .int 0, .int 0, .null, .int 0, .int 0, .int 0, .ref la, .ref lb, .ref lc]))], ALo la G.2.2.2.1 0 0, ALo lb G.2.2.2.1 0 0, ALo lc G.2.2.2.1 0 0] rfl ?_
  refine ex_al d_Re_init_37 rfl ?_
  refine ex_al d_Re_init_38 rfl ?_
  refine ex_put1 0 wl_Re_24 d_Re_init_39 rfl rfl rfl (Nat.le_of_ble_eq_true rfl) ?_
  refine ex_al d_Re_init_42 rfl ?_
  refine ex_il d_Re_init_43 rfl ?_
  refine ex_put1 0 wl_Re_28 d_Re_init_44 rfl rfl rfl (Nat.le_of_ble_eq_true rfl) ?_
  exact ex_vret [RO h tp t 0 .null 0 0 0 la lb lc, ALo la G.2.2.2.1 0 0, ALo lb G.2.2.2.1 0 0, ALo lc G.2.2.2.1 0 0] hG d_Re_init_47 rfl (by decide) (by decide) (eg_sub.of rfl) ⟨la, lb, lc, rfl, rfl⟩
set_option maxRecDepth 100000 in
theorem c_Mo_needs (l : Launch) (G : eg_G) (P : va_W) (a nl b len cap ma : Nat) (x : Int32) (f : Nat → Option Nat) (vs : List Value) (hv : vs[6]? = some (.ref nl)) (ha : (a, .inr (15, vs)) ∈ P) (ho : (nl, .inr (10, [.ref b, .int (nI len), .int x])) ∈ P) (hl : len < 2 ^ 30) (hq : 0 < len → (b, .inl (eg_c G 7, cap, .inr (.inr (.inr (.inr f))))) ∈ P ∧ len ≤ cap ∧ cap < 2 ^ 31) : Ct l G y_Mo_needs 4 0 0 [.ref a, .ref ma] [P] (rF (some (.int (bI (rany (fun i => decide (f i = some ma)) len)))) [P]) := by
  refine Ct.of cd_Mo_needs (eg_catb rfl) (Nat.le_of_ble_eq_true rfl) ?_
  intro Γ hG
  have hR := hG.rm
  show Ex G Γ mu_Mo_needs 0 [some (.ref a), some (.ref ma), none] [] [P] 0 0
  refine ex_k d_Mo_needs_0 ?_
  refine ex_is d_Mo_needs_1 (Nat.le_of_ble_eq_true rfl) ?_
  have LL : ∀ j, j ≤ len → rany (fun i => decide (f i = some ma)) j = false → Ex G Γ mu_Mo_needs 2 [some (.ref a), some (.ref ma), some (.int (nI j))] [] [P] 0 0 := by
    refine eg_down len (fun j hj ih hno => ?_)
    refine ex_il d_Mo_needs_2 rfl ?_
    refine ex_al d_Mo_needs_3 rfl ?_
    refine ex_get 0 fl_Mo_10 d_Mo_needs_4 rfl ha hv ?_
    refine ex_cF [0] hR (c_AL_size l G P nl b len x ho) (eg_invV 0 d_Mo_needs_7 cd_AL_size cx_Mo_40 rfl rfl ho rfl rfl) cd_AL_size rfl rfl (Nat.le_of_ble_eq_true rfl) (by decide) (by decide) (by decide) (by decide) rfl ?_
    refine ex_eqS [P] rfl ?_
    refine ex_icmp_ge d_Mo_needs_10 (fun z => ?_) (fun z => ?_)
    · have z := le_n (a := len) z
      obtain rfl : j = len := by omega
      refine ex_k d_Mo_needs_33 ?_
      exact ex_iret [P] hG d_Mo_needs_34 rfl rfl (by decide) (by decide) (eg_sub.of rfl) ⟨by rw [hno]; rfl, rfl⟩
    · have hlt := lt_n (a := len) z
      obtain ⟨hq1, hq2, hq3⟩ := hq (by omega)
      refine ex_al d_Mo_needs_13 rfl ?_
      refine ex_get 0 fl_Mo_10 d_Mo_needs_14 rfl ha hv ?_
      refine ex_il d_Mo_needs_17 rfl ?_
      refine ex_cF [0] hR (c_AL_get l G P nl b len cap x f ho hq1 j hlt hq2 hq3) (eg_invV 0 d_Mo_needs_18 cd_AL_get cx_Mo_43 rfl rfl ho rfl rfl) cd_AL_get rfl rfl (Nat.le_of_ble_eq_true rfl) (by decide) (by decide) (by decide) (by decide) rfl ?_
      refine ex_eqS [P] rfl ?_
      refine ex_al d_Mo_needs_21 rfl ?_
      refine ex_acmp_ne (ry := some ma) d_Mo_needs_22 (fun z2 => ?_) (fun z2 => ?_)
      · refine ex_inc d_Mo_needs_27 rfl ?_
        refine ex_goto d_Mo_needs_30 ?_
        exact ih hlt (by rw [rany_s, hno, decide_eq_false z2]; rfl)
      · refine ex_k d_Mo_needs_25 ?_
        exact ex_iret [P] hG d_Mo_needs_26 rfl rfl (by decide) (by decide) (eg_sub.of rfl) ⟨by rw [show rany (fun i => decide (f i = some ma)) len = true from rany_iff.mpr ⟨j, hlt, decide_eq_true z2⟩]; rfl, rfl⟩
  exact LL 0 (Nat.zero_le _) rfl
