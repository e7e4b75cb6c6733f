/-! THE LOADER, 19: a new one; the law's helpers -/
theorem gd0 : gdB tf0 tg0 = fun _ => false := by
  funext y
  unfold gdB
  by_cases h : y < 0 ∨ 4096 ≤ y
  · rw [if_pos h]
  · rw [if_neg h]
    by_cases h2 : y < 512
    · rw [if_pos h2]
      rfl
    · rw [if_neg h2]
      cases hb : rany (gdP tf0 tg0 y) 12 with
      | false => rfl
      | true =>
        obtain ⟨j, hj, e⟩ := rany_iff.mp hb
        rw [gdP_d rfl] at e
        cases e
theorem lv0 (j : Nat) : ¬ lv tg0 j := fun h => h.2 rfl
theorem ri0 (G : eg_G) (sa A mx : Nat → Nat) (PP : va_W) : RI G tf0 tg0 0 0 sa A 0 mx (fun _ => none) PP (fun _ => 0) := RI.of rfl (by decide) rfl (by decide) (Or.inl rfl) (fun _ => (by decide : (0 : Int32) &&& 255 = 0)) (fun _ => (by decide : (0 : Int32) &&& 255 = 0)) (fun i hi => absurd hi (Nat.not_lt_zero _)) (fun s s' hs => absurd hs (Nat.not_lt_zero _)) (fun s hs => absurd hs (Nat.not_lt_zero _)) (fun s hs => absurd hs (Nat.not_lt_zero _)) (by decide) (fun i hi => absurd hi (Nat.not_lt_zero _)) (fun j hj => absurd hj (lv0 j)) (fun i i' _ hi => absurd hi (Nat.not_lt_zero _)) (fun j j' hj => absurd hj (lv0 j)) (fun j j' hj => absurd hj (lv0 j)) (fun j hj => absurd hj (lv0 j)) (fun r j _ hj => absurd hj (lv0 j)) (fun r _ => Or.inl rfl) (fun j hj => absurd hj (lv0 j)) (fun j i _ _ h => absurd rfl h)
set_option maxRecDepth 100000 in
set_option maxHeartbeats 2000000 in
theorem c_ML_init (l : Launch) (G : eg_G) (x : Nat) : Ct l G y_ML_init 5 25 10000 [.ref x] [[(x, .inr (0, [.null, .null, .null, .null, .null, .int 0, .int 0, .int 0, .int 0, .int 0, .int 0, .int 0]))]] (fun o S2 => o = .inl none ∧ CR G x tf0 tg0 S2) := by
  refine Ct.of cd_ML_init (eg_catb rfl) (Nat.le_of_ble_eq_true rfl) ?_
  intro Γ hG
  have hR := hG.rm
  show Ex G Γ mu_ML_init 0 [some (.ref x)] [] [[(x, .inr (0, [.null, .null, .null, .null, .null, .int 0, .int 0, .int 0, .int 0, .int 0, .int 0, .int 0]))]] 0 0
  refine ex_al d_ML_init_0 rfl ?_
  refine ex_oinit hR d_ML_init_1 ol_ML_1 oi_inst oi_code (Nat.le_of_ble_eq_true rfl) ?_
  refine ex_al d_ML_init_4 rfl ?_
  refine ex_new hR nw_ML_7 d_ML_init_5 (by decide) (by decide) (fun ma => ?_)
  refine ex_dup d_ML_init_8 rfl ?_
  refine ex_call [1] hR (c_Ma_init l G ma) (eg_invI d_ML_init_9 cd_Ma_init rfl rfl tw_107 cx_ML_9 rfl rfl) cd_Ma_init rfl rfl (Nat.le_of_ble_eq_true rfl) (by decide) (by decide) (by decide) (by decide) (fun v S1 hK1 => ?_) (fun E S1 hK1 => ?_)
  rotate_left
  · obtain ⟨h1, a, rfl, rfl⟩ := hK1
    cases h1
  obtain ⟨h1, a, rfl, rfl⟩ := hK1
  cases h1
  refine ex_put1 0 wl_ML_10 d_ML_init_12 rfl rfl rfl (Nat.le_of_ble_eq_true rfl) ?_
  refine ex_eqS [[(x, .inr (0, [.ref (a 0), .null, .null, .null, .null, .int 0, .int 0, .int 0, .int 0, .int 0, .int 0, .int 0]))], MA G a (fun _ => 0) (fun _ => false) (fun _ => 0) 0 0 0] rfl ?_
  refine ex_al d_ML_init_15 rfl ?_
  refine ex_new hR nw_ML_16 d_ML_init_16 (by decide) (by decide) (fun so => ?_)
  refine ex_dup d_ML_init_19 rfl ?_
  refine ex_call [2] hR (c_Ss_init l G so) (eg_invI d_ML_init_20 cd_Ss_init rfl rfl tw_209 cx_ML_18 rfl rfl) cd_Ss_init rfl rfl (Nat.le_of_ble_eq_true rfl) (by decide) (by decide) (by decide) (by decide) (fun v S1 hK1 => ?_) (fun E S1 hK1 => ?_)
  rotate_left
  · obtain ⟨pl, gn, h1, rfl⟩ := hK1
    cases h1
  obtain ⟨pl, gn, h1, rfl⟩ := hK1
  cases h1
  refine ex_put1 0 wl_ML_19 d_ML_init_23 rfl rfl rfl (Nat.le_of_ble_eq_true rfl) ?_
  refine ex_eqS [[(x, .inr (0, [.ref (a 0), .ref so, .null, .null, .null, .int 0, .int 0, .int 0, .int 0, .int 0, .int 0, .int 0]))], MA G a (fun _ => 0) (fun _ => false) (fun _ => 0) 0 0 0, SO so pl gn (nI 0) 0, SPl G pl (fun _ => none), SG gn] rfl ?_
  refine ex_al d_ML_init_26 rfl ?_
  refine ex_new hR nw_ML_23 d_ML_init_27 (by decide) (by decide) (fun al => ?_)
  refine ex_dup d_ML_init_30 rfl ?_
  refine ex_cV [5] hR (c_AL_init l G al) (eg_invI d_ML_init_31 cd_AL_init rfl rfl tw_254 cx_ML_25 rfl rfl) cd_AL_init rfl rfl (Nat.le_of_ble_eq_true rfl) (by decide) (by decide) (by decide) (by decide) rfl ?_
  refine ex_put1 0 wl_ML_26 d_ML_init_34 rfl rfl rfl (Nat.le_of_ble_eq_true rfl) ?_
  refine ex_eqS [[(x, .inr (0, [.ref (a 0), .ref so, .ref al, .null, .null, .int 0, .int 0, .int 0, .int 0, .int 0, .int 0, .int 0]))], MA G a (fun _ => 0) (fun _ => false) (fun _ => 0) 0 0 0, SO so pl gn (nI 0) 0, SPl G pl (fun _ => none), SG gn, ALo al G.2.2.2.1 0 0] rfl ?_
  refine ex_al d_ML_init_37 rfl ?_
  refine ex_k d_ML_init_38 ?_
  refine ex_newq (N := 208) (t := 6) hR d_ML_init_41 kl_ML_30 ao_6 rfl (by decide) (by decide) (by decide) (by decide) (by decide) (fun rw' => ?_)
  refine ex_put1 0 wl_ML_32 d_ML_init_44 rfl rfl rfl (Nat.le_of_ble_eq_true rfl) ?_
  refine ex_eqS [[(x, .inr (0, [.ref (a 0), .ref so, .ref al, .ref rw', .null, .int 0, .int 0, .int 0, .int 0, .int 0, .int 0, .int 0]))], MA G a (fun _ => 0) (fun _ => false) (fun _ => 0) 0 0 0, SO so pl gn (nI 0) 0, SPl G pl (fun _ => none), SG gn, ALo al G.2.2.2.1 0 0, RW G rw' (fun _ => none)] rfl ?_
  refine ex_al d_ML_init_47 rfl ?_
  refine ex_k d_ML_init_48 ?_
  refine ex_newa (N := 1200) (t := 0) (a0 := (1200, .inl (fun _ => 0))) hR d_ML_init_51 rfl ac_byte rfl (fun _ => rfl) (by decide) (by decide) (by decide) (by decide) (by decide) (fun tp => ?_)
  refine ex_put1 0 wl_ML_36 d_ML_init_53 rfl rfl rfl (Nat.le_of_ble_eq_true rfl) ?_
  refine ex_al d_ML_init_56 rfl ?_
  refine ex_k d_ML_init_57 ?_
  refine ex_put1 0 wl_ML_40 d_ML_init_58 rfl rfl rfl (Nat.le_of_ble_eq_true rfl) ?_
  refine ex_eqS [[(x, .inr (0, [.ref (a 0), .ref so, .ref al, .ref rw', .ref tp, .int 0, .int 0, .int (-1), .int 0, .int 0, .int 0, .int 0]))], MA G a (fun _ => 0) (fun _ => false) (fun _ => 0) 0 0 0, SO so pl gn (nI 0) 0, SPl G pl (fun _ => none), SG gn, ALo al G.2.2.2.1 0 0, RW G rw' (fun _ => none), TP G tp (fun _ => 0)] rfl ?_
  refine ex_eqS [LO x (fun i => if i = 0 then a 0 else if i = 1 then so else if i = 2 then al else if i = 3 then rw' else tp) tf0, MA G a (fun _ => 0) (fun _ => false) (fun _ => 0) 0 0 0, SO so pl gn (nI 0) 0, SPl G pl (fun _ => none), SG gn, ALo al G.2.2.2.1 0 0, RW G rw' (fun _ => none), TP G tp (fun _ => 0)] rfl ?_
  exact ex_vret [LO x (fun i => if i = 0 then a 0 else if i = 1 then so else if i = 2 then al else if i = 3 then rw' else tp) tf0, MA G a (fun _ => 0) (fun _ => false) (fun _ => 0) 0 0 0, SO so pl gn (nI 0) 0, SPl G pl (fun _ => none), SG gn, [], ALo al G.2.2.2.1 0 0, [], RW G rw' (fun _ => none), TP G tp (fun _ => 0)] hG d_ML_init_61 rfl (by decide) (by decide) (eg_sub.of (by simp)) ⟨rfl, (fun i => if i = 0 then a 0 else if i = 1 then so else if i = 2 then al else if i = 3 then rw' else tp), a, 0, 0, 0, pl, gn, 0, 0, 0, (fun _ => none), (fun _ => 0), (fun _ => 0), [], G.2.2.2.1, 0, 0, [], (fun _ => 0), (fun _ => none), (fun _ => 0), by unfold CW; rw [gd0]; rfl, rfl, ri0 G _ _ _ _, TB.emp gn, Or.inl ⟨rfl, rfl, rfl⟩⟩
