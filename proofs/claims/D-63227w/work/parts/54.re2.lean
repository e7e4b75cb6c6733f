/-! THE READER, 2: within, name, offset; records -/
set_option maxRecDepth 100000 in
theorem c_ML_isName (l : Launch) (G : eg_G) (x : Int32) : Ct l G y_ML_isName 1 0 0 [.int x] [] (rF (some (.int (bI (nmB x)))) []) := by
  refine Ct.of cd_ML_isName (eg_catb rfl) (Nat.le_of_ble_eq_true rfl) ?_
  intro Γ hG
  have hR := hG.rm
  show Ex G Γ mu_ML_isName 0 [some (.int x), none] [] [] 0 0
  refine ex_k d_ML_isName_0 ?_
  refine ex_is d_ML_isName_1 (Nat.le_of_ble_eq_true rfl) ?_
  have L : ∀ j, j ≤ 4 → rall (nmP x) j = true → Ex G Γ mu_ML_isName 2 [some (.int x), some (.int (nI j))] [] [] 0 0 := by
    refine eg_down 4 (fun j hj ih hg => ?_)
    refine ex_il d_ML_isName_2 rfl ?_
    refine ex_k d_ML_isName_3 ?_
    refine ex_icmp_ge d_ML_isName_4 (fun h4 => ?_) (fun h4 => ?_)
    · skip
      have h4 := le_n (a := 4) h4
      have hj4 : j = 4 := by omega
      subst hj4
      refine ex_k d_ML_isName_45 ?_
      exact ex_iret [] hG d_ML_isName_46 rfl rfl (by decide) (by decide) (eg_sub.of rfl) ⟨by rw [show nmB x = true from hg]; rfl, rfl⟩
    · skip
      have hlt := lt_n (a := 4) h4
      refine ex_il d_ML_isName_7 rfl ?_
      refine ex_k d_ML_isName_8 ?_
      refine ex_il d_ML_isName_10 rfl ?_
      refine ex_imul d_ML_isName_11 ?_
      refine ex_ishr d_ML_isName_12 ?_
      refine ex_k d_ML_isName_13 ?_
      refine ex_iand d_ML_isName_16 ?_
      refine ex_k d_ML_isName_17 ?_
      refine ex_icmp_lt d_ML_isName_19 (fun h19 => ?_) (fun h19 => ?_)
      · skip
        have h19 : (x >>> (nI 8 * nI j &&& 31) &&& 255) < 97 := h19
        have hbad : nmP x j = false := by rw [nmP, ← pk_mul, decide_eq_false (Int32.not_le.mpr h19)]; rfl
        refine ex_k d_ML_isName_37 ?_
        exact ex_iret [] hG d_ML_isName_38 rfl rfl (by decide) (by decide) (eg_sub.of rfl) ⟨by rw [show nmB x = false from by cases hb : nmB x; rfl; exact absurd (rall_iff.mp hb j hlt) (by rw [hbad]; decide)]; rfl, rfl⟩
      · skip
        have h19 : ¬ (x >>> (nI 8 * nI j &&& 31) &&& 255) < 97 := h19
        refine ex_il d_ML_isName_22 rfl ?_
        refine ex_k d_ML_isName_23 ?_
        refine ex_il d_ML_isName_25 rfl ?_
        refine ex_imul d_ML_isName_26 ?_
        refine ex_ishr d_ML_isName_27 ?_
        refine ex_k d_ML_isName_28 ?_
        refine ex_iand d_ML_isName_31 ?_
        refine ex_k d_ML_isName_32 ?_
        refine ex_icmp_le d_ML_isName_34 (fun h34 => ?_) (fun h34 => ?_)
        · skip
          have h34 : (x >>> (nI 8 * nI j &&& 31) &&& 255) ≤ 122 := h34
          refine ex_inc d_ML_isName_39 rfl ?_
          refine ex_goto d_ML_isName_42 ?_
          exact ih hlt (by rw [rall_s, hg, nmP, ← pk_mul, decide_eq_true (Int32.not_lt.mp h19), decide_eq_true h34]; rfl)
        · skip
          have h34 : ¬ (x >>> (nI 8 * nI j &&& 31) &&& 255) ≤ 122 := h34
          have hbad : nmP x j = false := by rw [nmP, ← pk_mul, decide_eq_false h34, Bool.and_false]
          refine ex_k d_ML_isName_37 ?_
          exact ex_iret [] hG d_ML_isName_38 rfl rfl (by decide) (by decide) (eg_sub.of rfl) ⟨by rw [show nmB x = false from by cases hb : nmB x; rfl; exact absurd (rall_iff.mp hb j hlt) (by rw [hbad]; decide)]; rfl, rfl⟩
  exact L 0 (Nat.zero_le _) rfl
set_option maxRecDepth 100000 in
theorem c_Re_within (l : Launch) (G : eg_G) (ro tp t p : Nat) (im : Value) (ini exi gua : Int32) (la lb lc : Nat) (T : Nat → Int32) (hTb : ∀ i, T i &&& 255 = T i) (ht : t ≤ 1200) (hp : p ≤ t) (lo hi : Int32) : Ct l G y_Re_within 8 2 12 [.ref ro, .int lo, .int hi] [RO ro tp t p im ini exi gua la lb lc, TP G tp T] (rC (p + 4 ≤ t ∧ (decide (lo ≤ wdA T p) && decide (wdA T p ≤ hi)) = true) (some (.int (wdA T p))) [RO ro tp t (p + 4) im ini exi gua la lb lc, TP G tp T] x_IAE [[], TP G tp T]) := by
  refine Ct.of cd_Re_within (eg_catb rfl) (Nat.le_of_ble_eq_true rfl) ?_
  intro Γ hG
  have hR := hG.rm
  show Ex G Γ mu_Re_within 0 [some (.ref ro), some (.int lo), some (.int hi), none] [] [RO ro tp t p im ini exi gua la lb lc, TP G tp T] 0 0
  refine ex_al d_Re_within_0 rfl ?_
  refine ex_cCF [0, 1] hR (c_Re_word l G ro tp t p im ini exi gua la lb lc T hTb ht hp) (eg_invV 0 d_Re_within_1 cd_Re_word cx_Re_42 rfl rfl List.mem_cons_self rfl rfl) cd_Re_word rfl rfl (Nat.le_of_ble_eq_true rfl) (by decide) (by decide) (by decide) (by decide) rfl (fun hc => ?_) (fun hc => ?_)
  rotate_left
  · exact ext_leave [[], TP G tp T] hG (fun _ h => absurd h List.not_mem_nil) (by decide) (by decide) (eg_sub.of rfl) (Or.inr ⟨fun z => hc z.1, rfl, rfl⟩)
  refine ex_eqS [RO ro tp t (p + 4) im ini exi gua la lb lc, TP G tp T] rfl ?_
  refine ex_is d_Re_within_4 (Nat.le_of_ble_eq_true rfl) ?_
  refine ex_al d_Re_within_5 rfl ?_
  have J : ∀ z : Int32, z = bI (decide (lo ≤ wdA T p) && decide (wdA T p ≤ hi)) → Ex G Γ mu_Re_within 21 [some (.ref ro), some (.int lo), some (.int hi), some (.int (wdA T p))] [.int z, .ref ro] [RO ro tp t (p + 4) im ini exi gua la lb lc, TP G tp T] 1 6 := by
    intro z hz
    subst hz
    refine ex_cCV [] hR (c_Re_need l G ro (decide (lo ≤ wdA T p) && decide (wdA T p ≤ hi))) (eg_invV 0 d_Re_within_21 cd_Re_need cx_Re_38 rfl rfl List.mem_cons_self rfl rfl) cd_Re_need rfl rfl (Nat.le_of_ble_eq_true rfl) (by decide) (by decide) (by decide) (by decide) rfl (fun hb => ?_) (fun hb => ?_)
    rotate_left
    · exact ext_leave [[], TP G tp T] hG (fun _ h => absurd h List.not_mem_nil) (by decide) (by decide) eg_sk (Or.inr ⟨fun z => hb z.2, rfl, rfl⟩)
    refine ex_eqS [RO ro tp t (p + 4) im ini exi gua la lb lc, TP G tp T] rfl ?_
    refine ex_il d_Re_within_24 rfl ?_
    exact ex_iret [RO ro tp t (p + 4) im ini exi gua la lb lc, TP G tp T] hG d_Re_within_25 rfl rfl (by decide) (by decide) (eg_sub.of rfl) (Or.inl ⟨⟨hc, hb⟩, rfl, rfl⟩)
  refine ex_il d_Re_within_6 rfl ?_
  refine ex_il d_Re_within_7 rfl ?_
  refine ex_icmp_lt d_Re_within_8 (fun z => ?_) (fun z => ?_)
  · refine ex_k d_Re_within_20 ?_
    exact J _ (by rw [decide_eq_false (p := lo ≤ wdA T p) (Int32.not_le.mpr z)]; rfl)
  refine ex_il d_Re_within_11 rfl ?_
  refine ex_il d_Re_within_12 rfl ?_
  refine ex_icmp_gt d_Re_within_13 (fun z2 => ?_) (fun z2 => ?_)
  · refine ex_k d_Re_within_20 ?_
    exact J _ (by rw [decide_eq_false (p := wdA T p ≤ hi) (Int32.not_le.mpr z2), Bool.and_false]; rfl)
  refine ex_k d_Re_within_16 ?_
  refine ex_goto d_Re_within_17 ?_
  exact J _ (by rw [decide_eq_true (Int32.not_lt.mp z), decide_eq_true (Int32.not_lt.mp z2)]; rfl)
set_option maxRecDepth 100000 in
theorem c_Re_name (l : Launch) (G : eg_G) (ro tp t p : Nat) (im : Value) (ini exi gua : Int32) (la lb lc : Nat) (T : Nat → Int32) (hTb : ∀ i, T i &&& 255 = T i) (ht : t ≤ 1200) (hp : p ≤ t) : Ct l G y_Re_name 8 2 12 [.ref ro] [RO ro tp t p im ini exi gua la lb lc, TP G tp T] (rC (p + 4 ≤ t ∧ nmB (wdA T p) = true) (some (.int (wdA T p))) [RO ro tp t (p + 4) im ini exi gua la lb lc, TP G tp T] x_IAE [[], TP G tp T]) := by
  refine Ct.of cd_Re_name (eg_catb rfl) (Nat.le_of_ble_eq_true rfl) ?_
  intro Γ hG
  have hR := hG.rm
  show Ex G Γ mu_Re_name 0 [some (.ref ro), none] [] [RO ro tp t p im ini exi gua la lb lc, TP G tp T] 0 0
  refine ex_al d_Re_name_0 rfl ?_
  refine ex_cCF [0, 1] hR (c_Re_word l G ro tp t p im ini exi gua la lb lc T hTb ht hp) (eg_invV 0 d_Re_name_1 cd_Re_word cx_Re_42 rfl rfl List.mem_cons_self rfl rfl) cd_Re_word rfl rfl (Nat.le_of_ble_eq_true rfl) (by decide) (by decide) (by decide) (by decide) rfl (fun hc => ?_) (fun hc => ?_)
  rotate_left
  · exact ext_leave [[], TP G tp T] hG (fun _ h => absurd h List.not_mem_nil) (by decide) (by decide) (eg_sub.of rfl) (Or.inr ⟨fun z => hc z.1, rfl, rfl⟩)
  refine ex_eqS [RO ro tp t (p + 4) im ini exi gua la lb lc, TP G tp T] rfl ?_
  refine ex_is d_Re_name_4 (Nat.le_of_ble_eq_true rfl) ?_
  refine ex_al d_Re_name_5 rfl ?_
  refine ex_il d_Re_name_6 rfl ?_
  refine ex_cP hR (c_ML_isName l G (wdA T p)) (eg_invS d_Re_name_7 cd_ML_isName cx_Re_46 rfl rfl) cd_ML_isName (Nat.le_of_ble_eq_true rfl) (by decide) (by decide) (by decide) (by decide) rfl ?_
  refine ex_cCV [] hR (c_Re_need l G ro (nmB (wdA T p))) (eg_invV 0 d_Re_name_10 cd_Re_need cx_Re_38 rfl rfl List.mem_cons_self rfl rfl) cd_Re_need rfl rfl (Nat.le_of_ble_eq_true rfl) (by decide) (by decide) (by decide) (by decide) rfl (fun hb => ?_) (fun hb => ?_)
  rotate_left
  · exact ext_leave [[], TP G tp T] hG (fun _ h => absurd h List.not_mem_nil) (by decide) (by decide) eg_sk (Or.inr ⟨fun z => hb z.2, rfl, rfl⟩)
  refine ex_eqS [RO ro tp t (p + 4) im ini exi gua la lb lc, TP G tp T] rfl ?_
  refine ex_il d_Re_name_13 rfl ?_
  exact ex_iret [RO ro tp t (p + 4) im ini exi gua la lb lc, TP G tp T] hG d_Re_name_14 rfl rfl (by decide) (by decide) (eg_sub.of rfl) (Or.inl ⟨⟨hc, hb⟩, rfl, rfl⟩)
set_option maxRecDepth 100000 in
theorem c_Im_init (l : Launch) (G : eg_G) (h : Nat) (u v : Int32) : Ct l G y_Im_init 3 0 0 [.ref h, .int u, .int v] [[(h, .inr (12, [.int 0, .int 0]))]] (rF none [[(h, .inr (12, [.int u, .int v]))]]) := by
  refine Ct.of cd_Im_init (eg_catb rfl) (Nat.le_of_ble_eq_true rfl) ?_
  intro Γ hG
  have hR := hG.rm
  show Ex G Γ mu_Im_init 0 [some (.ref h), some (.int u), some (.int v)] [] [[(h, .inr (12, [.int 0, .int 0]))]] 0 0
  refine ex_al d_Im_init_0 rfl ?_
  refine ex_cV [] hR (c_Rc_init l G h) (eg_invI d_Im_init_1 cd_Rc_init rfl rfl tw_118 cx_Im_1 rfl rfl) cd_Rc_init rfl rfl (Nat.le_of_ble_eq_true rfl) (by decide) (by decide) (by decide) (by decide) rfl ?_
  refine ex_al d_Im_init_4 rfl ?_
  refine ex_il d_Im_init_5 rfl ?_
  refine ex_put1 0 wl_Im_7 d_Im_init_6 rfl rfl rfl (Nat.le_of_ble_eq_true rfl) ?_
  refine ex_al d_Im_init_9 rfl ?_
  refine ex_il d_Im_init_10 rfl ?_
  refine ex_put1 0 wl_Im_13 d_Im_init_11 rfl rfl rfl (Nat.le_of_ble_eq_true rfl) ?_
  exact ex_vret [[(h, .inr (12, [.int u, .int v]))]] hG d_Im_init_14 rfl (by decide) (by decide) (eg_sub.of rfl) ⟨rfl, rfl⟩
set_option maxRecDepth 100000 in
theorem c_Im_name (l : Launch) (G : eg_G) (P : va_W) (h : Nat) (u v : Int32) (hm : (h, .inr (12, [.int u, .int v])) ∈ P) : Ct l G y_Im_name 1 0 0 [.ref h] [P] (rF (some (.int u)) [P]) := by
  refine Ct.of cd_Im_name (eg_catb rfl) (Nat.le_of_ble_eq_true rfl) ?_
  intro Γ hG
  have hR := hG.rm
  show Ex G Γ mu_Im_name 0 [some (.ref h)] [] [P] 0 0
  refine ex_al d_Im_name_0 rfl ?_
  refine ex_get 0 fl_Im_7 d_Im_name_1 rfl hm rfl ?_
  exact ex_iret [P] hG d_Im_name_4 rfl rfl (by decide) (by decide) (eg_sub.of rfl) ⟨rfl, rfl⟩
set_option maxRecDepth 100000 in
theorem c_Im_check (l : Launch) (G : eg_G) (P : va_W) (h : Nat) (u v : Int32) (hm : (h, .inr (12, [.int u, .int v])) ∈ P) : Ct l G y_Im_check 1 0 0 [.ref h] [P] (rF (some (.int v)) [P]) := by
  refine Ct.of cd_Im_check (eg_catb rfl) (Nat.le_of_ble_eq_true rfl) ?_
  intro Γ hG
  have hR := hG.rm
  show Ex G Γ mu_Im_check 0 [some (.ref h)] [] [P] 0 0
  refine ex_al d_Im_check_0 rfl ?_
  refine ex_get 0 fl_Im_13 d_Im_check_1 rfl hm rfl ?_
  exact ex_iret [P] hG d_Im_check_4 rfl rfl (by decide) (by decide) (eg_sub.of rfl) ⟨rfl, rfl⟩
set_option maxRecDepth 100000 in
theorem c_Ep_init (l : Launch) (G : eg_G) (h : Nat) (u v w : Int32) : Ct l G y_Ep_init 3 0 0 [.ref h, .int u, .int v, .int w] [[(h, .inr (13, [.int 0, .int 0, .int 0]))]] (rF none [[(h, .inr (13, [.int u, .int v, .int w]))]]) := by
  refine Ct.of cd_Ep_init (eg_catb rfl) (Nat.le_of_ble_eq_true rfl) ?_
  intro Γ hG
  have hR := hG.rm
  show Ex G Γ mu_Ep_init 0 [some (.ref h), some (.int u), some (.int v), some (.int w)] [] [[(h, .inr (13, [.int 0, .int 0, .int 0]))]] 0 0
  refine ex_al d_Ep_init_0 rfl ?_
  refine ex_cV [] hR (c_Rc_init l G h) (eg_invI d_Ep_init_1 cd_Rc_init rfl rfl tw_118 cx_Ep_1 rfl rfl) cd_Rc_init rfl rfl (Nat.le_of_ble_eq_true rfl) (by decide) (by decide) (by decide) (by decide) rfl ?_
  refine ex_al d_Ep_init_4 rfl ?_
  refine ex_il d_Ep_init_5 rfl ?_
  refine ex_put1 0 wl_Ep_7 d_Ep_init_6 rfl rfl rfl (Nat.le_of_ble_eq_true rfl) ?_
  refine ex_al d_Ep_init_9 rfl ?_
  refine ex_il d_Ep_init_10 rfl ?_
  refine ex_put1 0 wl_Ep_13 d_Ep_init_11 rfl rfl rfl (Nat.le_of_ble_eq_true rfl) ?_
  refine ex_al d_Ep_init_14 rfl ?_
  refine ex_il d_Ep_init_15 rfl ?_
  refine ex_put1 0 wl_Ep_16 d_Ep_init_16 rfl rfl rfl (Nat.le_of_ble_eq_true rfl) ?_
  exact ex_vret [[(h, .inr (13, [.int u, .int v, .int w]))]] hG d_Ep_init_19 rfl (by decide) (by decide) (eg_sub.of rfl) ⟨rfl, rfl⟩
set_option maxRecDepth 100000 in
theorem c_Ep_name (l : Launch) (G : eg_G) (P : va_W) (h : Nat) (u v w : Int32) (hm : (h, .inr (13, [.int u, .int v, .int w])) ∈ P) : Ct l G y_Ep_name 1 0 0 [.ref h] [P] (rF (some (.int u)) [P]) := by
  refine Ct.of cd_Ep_name (eg_catb rfl) (Nat.le_of_ble_eq_true rfl) ?_
  intro Γ hG
  have hR := hG.rm
  show Ex G Γ mu_Ep_name 0 [some (.ref h)] [] [P] 0 0
  refine ex_al d_Ep_name_0 rfl ?_
  refine ex_get 0 fl_Ep_7 d_Ep_name_1 rfl hm rfl ?_
  exact ex_iret [P] hG d_Ep_name_4 rfl rfl (by decide) (by decide) (eg_sub.of rfl) ⟨rfl, rfl⟩
set_option maxRecDepth 100000 in
theorem c_Ep_check (l : Launch) (G : eg_G) (P : va_W) (h : Nat) (u v w : Int32) (hm : (h, .inr (13, [.int u, .int v, .int w])) ∈ P) : Ct l G y_Ep_check 1 0 0 [.ref h] [P] (rF (some (.int v)) [P]) := by
  refine Ct.of cd_Ep_check (eg_catb rfl) (Nat.le_of_ble_eq_true rfl) ?_
  intro Γ hG
  have hR := hG.rm
  show Ex G Γ mu_Ep_check 0 [some (.ref h)] [] [P] 0 0
  refine ex_al d_Ep_check_0 rfl ?_
  refine ex_get 0 fl_Ep_13 d_Ep_check_1 rfl hm rfl ?_
  exact ex_iret [P] hG d_Ep_check_4 rfl rfl (by decide) (by decide) (eg_sub.of rfl) ⟨rfl, rfl⟩
set_option maxRecDepth 100000 in
theorem c_Ep_offset (l : Launch) (G : eg_G) (P : va_W) (h : Nat) (u v w : Int32) (hm : (h, .inr (13, [.int u, .int v, .int w])) ∈ P) : Ct l G y_Ep_offset 1 0 0 [.ref h] [P] (rF (some (.int w)) [P]) := by
  refine Ct.of cd_Ep_offset (eg_catb rfl) (Nat.le_of_ble_eq_true rfl) ?_
  intro Γ hG
  have hR := hG.rm
  show Ex G Γ mu_Ep_offset 0 [some (.ref h)] [] [P] 0 0
  refine ex_al d_Ep_offset_0 rfl ?_
  refine ex_get 0 fl_Ep_16 d_Ep_offset_1 rfl hm rfl ?_
  exact ex_iret [P] hG d_Ep_offset_4 rfl rfl (by decide) (by decide) (eg_sub.of rfl) ⟨rfl, rfl⟩
set_option maxRecDepth 100000 in
theorem c_Pl_init (l : Launch) (G : eg_G) (h : Nat) (u v w z : Int32) : Ct l G y_Pl_init 3 0 0 [.ref h, .int u, .int v, .int w, .int z] [[(h, .inr (14, [.int 0, .int 0, .int 0, .int 0]))]] (rF none [[(h, .inr (14, [.int u, .int v, .int w, .int z]))]]) := by
  refine Ct.of cd_Pl_init (eg_catb rfl) (Nat.le_of_ble_eq_true rfl) ?_
  intro Γ hG
  have hR := hG.rm
  show Ex G Γ mu_Pl_init 0 [some (.ref h), some (.int u), some (.int v), some (.int w), some (.int z)] [] [[(h, .inr (14, [.int 0, .int 0, .int 0, .int 0]))]] 0 0
  refine ex_al d_Pl_init_0 rfl ?_
  refine ex_cV [] hR (c_Rc_init l G h) (eg_invI d_Pl_init_1 cd_Rc_init rfl rfl tw_118 cx_Pl_1 rfl rfl) cd_Rc_init rfl rfl (Nat.le_of_ble_eq_true rfl) (by decide) (by decide) (by decide) (by decide) rfl ?_
  refine ex_al d_Pl_init_4 rfl ?_
  refine ex_il d_Pl_init_5 rfl ?_
  refine ex_put1 0 wl_Pl_7 d_Pl_init_6 rfl rfl rfl (Nat.le_of_ble_eq_true rfl) ?_
  refine ex_al d_Pl_init_9 rfl ?_
  refine ex_il d_Pl_init_10 rfl ?_
  refine ex_put1 0 wl_Pl_13 d_Pl_init_11 rfl rfl rfl (Nat.le_of_ble_eq_true rfl) ?_
  refine ex_al d_Pl_init_14 rfl ?_
  refine ex_il d_Pl_init_15 rfl ?_
  refine ex_put1 0 wl_Pl_16 d_Pl_init_16 rfl rfl rfl (Nat.le_of_ble_eq_true rfl) ?_
  refine ex_al d_Pl_init_19 rfl ?_
  refine ex_il d_Pl_init_20 rfl ?_
  refine ex_put1 0 wl_Pl_19 d_Pl_init_22 rfl rfl rfl (Nat.le_of_ble_eq_true rfl) ?_
  exact ex_vret [[(h, .inr (14, [.int u, .int v, .int w, .int z]))]] hG d_Pl_init_25 rfl (by decide) (by decide) (eg_sub.of rfl) ⟨rfl, rfl⟩
set_option maxRecDepth 100000 in
theorem c_Pl_kind (l : Launch) (G : eg_G) (P : va_W) (h : Nat) (u v w z : Int32) (hm : (h, .inr (14, [.int u, .int v, .int w, .int z])) ∈ P) : Ct l G y_Pl_kind 1 0 0 [.ref h] [P] (rF (some (.int u)) [P]) := by
  refine Ct.of cd_Pl_kind (eg_catb rfl) (Nat.le_of_ble_eq_true rfl) ?_
  intro Γ hG
  have hR := hG.rm
  show Ex G Γ mu_Pl_kind 0 [some (.ref h)] [] [P] 0 0
  refine ex_al d_Pl_kind_0 rfl ?_
  refine ex_get 0 fl_Pl_7 d_Pl_kind_1 rfl hm rfl ?_
  exact ex_iret [P] hG d_Pl_kind_4 rfl rfl (by decide) (by decide) (eg_sub.of rfl) ⟨rfl, rfl⟩
set_option maxRecDepth 100000 in
theorem c_Pl_offset (l : Launch) (G : eg_G) (P : va_W) (h : Nat) (u v w z : Int32) (hm : (h, .inr (14, [.int u, .int v, .int w, .int z])) ∈ P) : Ct l G y_Pl_offset 1 0 0 [.ref h] [P] (rF (some (.int v)) [P]) := by
  refine Ct.of cd_Pl_offset (eg_catb rfl) (Nat.le_of_ble_eq_true rfl) ?_
  intro Γ hG
  have hR := hG.rm
  show Ex G Γ mu_Pl_offset 0 [some (.ref h)] [] [P] 0 0
  refine ex_al d_Pl_offset_0 rfl ?_
  refine ex_get 0 fl_Pl_13 d_Pl_offset_1 rfl hm rfl ?_
  exact ex_iret [P] hG d_Pl_offset_4 rfl rfl (by decide) (by decide) (eg_sub.of rfl) ⟨rfl, rfl⟩
set_option maxRecDepth 100000 in
theorem c_Pl_source (l : Launch) (G : eg_G) (P : va_W) (h : Nat) (u v w z : Int32) (hm : (h, .inr (14, [.int u, .int v, .int w, .int z])) ∈ P) : Ct l G y_Pl_source 1 0 0 [.ref h] [P] (rF (some (.int w)) [P]) := by
  refine Ct.of cd_Pl_source (eg_catb rfl) (Nat.le_of_ble_eq_true rfl) ?_
  intro Γ hG
  have hR := hG.rm
  show Ex G Γ mu_Pl_source 0 [some (.ref h)] [] [P] 0 0
  refine ex_al d_Pl_source_0 rfl ?_
  refine ex_get 0 fl_Pl_16 d_Pl_source_1 rfl hm rfl ?_
  exact ex_iret [P] hG d_Pl_source_4 rfl rfl (by decide) (by decide) (eg_sub.of rfl) ⟨rfl, rfl⟩
set_option maxRecDepth 100000 in
theorem c_Pl_addend (l : Launch) (G : eg_G) (P : va_W) (h : Nat) (u v w z : Int32) (hm : (h, .inr (14, [.int u, .int v, .int w, .int z])) ∈ P) : Ct l G y_Pl_addend 1 0 0 [.ref h] [P] (rF (some (.int z)) [P]) := by
  refine Ct.of cd_Pl_addend (eg_catb rfl) (Nat.le_of_ble_eq_true rfl) ?_
  intro Γ hG
  have hR := hG.rm
  show Ex G Γ mu_Pl_addend 0 [some (.ref h)] [] [P] 0 0
  refine ex_al d_Pl_addend_0 rfl ?_
  refine ex_get 0 fl_Pl_19 d_Pl_addend_1 rfl hm rfl ?_
  exact ex_iret [P] hG d_Pl_addend_4 rfl rfl (by decide) (by decide) (eg_sub.of rfl) ⟨rfl, rfl⟩
