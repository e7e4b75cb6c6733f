/-! THE LOADER, 9: modules -/
/-- a module's cells in the pool: its object, its list of needs (addresses nf i, i < c) -/
def MOi (G : eg_G) (PP : va_W) (a : Nat) (vs : List Value) (c : Nat) (nf : Nat → Nat) : Prop := ∃ (nl b cap : Nat) (y : Int32), (a, .inr (15, vs ++ [.ref nl])) ∈ PP ∧ (nl, .inr (10, [.ref b, .int (nI c), .int y])) ∈ PP ∧ (0 < c → (b, .inl (eg_c G 7, cap, .inr (.inr (.inr (.inr (lsF nf c)))))) ∈ PP ∧ c ≤ cap ∧ cap < 2 ^ 31)
abbrev mvs (nm ba si gu ex ep : Int32) : List Value := [.int nm, .int ba, .int si, .int gu, .int ex, .int ep]
set_option maxRecDepth 100000 in
theorem c_Mo_init (l : Launch) (G : eg_G) (h : Nat) (nm ad : Int32) (ro tp t p ia N : Nat) (ini exi gua : Int32) (la lb lc : Nat) (f : Nat → Int32) : Ct l G y_Mo_init 5 1 3 [.ref h, .int nm, .int ad, .ref ro] [[(h, .inr (15, [.int 0, .int 0, .int 0, .int 0, .int 0, .int 0, .null]))], RO ro tp t p (.ref ia) ini exi gua la lb lc, IMG G ia N f] (fun o S2 => ∃ nl, o = .inl none ∧ S2 = [[(h, .inr (15, [.int nm, .int ad, .int (nI (4 * N)), .int gua, .int exi, .int 0, .ref nl]))], RO ro tp t p (.ref ia) ini exi gua la lb lc, IMG G ia N f, ALo nl G.2.2.2.1 0 0]) := by
  refine Ct.of cd_Mo_init (eg_catb rfl) (Nat.le_of_ble_eq_true rfl) ?_
  intro Γ hG
  have hR := hG.rm
  show Ex G Γ mu_Mo_init 0 [some (.ref h), some (.int nm), some (.int ad), some (.ref ro)] [] [[(h, .inr (15, [.int 0, .int 0, .int 0, .int 0, .int 0, .int 0, .null]))], RO ro tp t p (.ref ia) ini exi gua la lb lc, IMG G ia N f] 0 0
  refine ex_al d_Mo_init_0 rfl ?_
  refine ex_oinit hR d_Mo_init_1 ol_Mo_1 oi_inst oi_code (Nat.le_of_ble_eq_true rfl) ?_
  refine ex_al d_Mo_init_4 rfl ?_
  refine ex_new hR nw_Mo_7 d_Mo_init_5 (by decide) (by decide) (fun nl => ?_)
  refine ex_dup d_Mo_init_8 rfl ?_
  refine ex_cV [3] hR (c_AL_init l G nl) (eg_invI d_Mo_init_9 cd_AL_init rfl rfl tw_254 cx_Mo_9 rfl rfl) cd_AL_init rfl rfl (Nat.le_of_ble_eq_true rfl) (by decide) (by decide) (by decide) (by decide) rfl ?_
  refine ex_put1 0 wl_Mo_10 d_Mo_init_12 rfl rfl rfl (Nat.le_of_ble_eq_true rfl) ?_
  refine ex_al d_Mo_init_15 rfl ?_
  refine ex_il d_Mo_init_16 rfl ?_
  refine ex_put1 0 wl_Mo_16 d_Mo_init_17 rfl rfl rfl (Nat.le_of_ble_eq_true rfl) ?_
  refine ex_al d_Mo_init_20 rfl ?_
  refine ex_il d_Mo_init_21 rfl ?_
  refine ex_put1 0 wl_Mo_20 d_Mo_init_22 rfl rfl rfl (Nat.le_of_ble_eq_true rfl) ?_
  refine ex_al d_Mo_init_25 rfl ?_
  refine ex_k d_Mo_init_26 ?_
  refine ex_al d_Mo_init_27 rfl ?_
  refine ex_get1 1 fl_Mo_23 d_Mo_init_28 rfl rfl ?_
  refine ex_alen 2 d_Mo_init_31 rfl List.mem_cons_self rfl ?_
  refine ex_imul d_Mo_init_32 ?_
  refine ex_eqT [.int (nI (4 * N)), .ref h] (by rw [← pk_mul]; rfl) ?_
  refine ex_put1 0 wl_Mo_29 d_Mo_init_33 rfl rfl rfl (Nat.le_of_ble_eq_true rfl) ?_
  refine ex_al d_Mo_init_36 rfl ?_
  refine ex_al d_Mo_init_37 rfl ?_
  refine ex_get1 1 fl_Mo_32 d_Mo_init_38 rfl rfl ?_
  refine ex_put1 0 wl_Mo_35 d_Mo_init_41 rfl rfl rfl (Nat.le_of_ble_eq_true rfl) ?_
  refine ex_al d_Mo_init_44 rfl ?_
  refine ex_al d_Mo_init_45 rfl ?_
  refine ex_get1 1 fl_Mo_36 d_Mo_init_46 rfl rfl ?_
  refine ex_put1 0 wl_Mo_39 d_Mo_init_49 rfl rfl rfl (Nat.le_of_ble_eq_true rfl) ?_
  exact ex_vret [[(h, .inr (15, [.int nm, .int ad, .int (nI (4 * N)), .int gua, .int exi, .int 0, .ref nl]))], RO ro tp t p (.ref ia) ini exi gua la lb lc, IMG G ia N f, ALo nl G.2.2.2.1 0 0] hG d_Mo_init_52 rfl (by decide) (by decide) (eg_sub.of rfl) ⟨nl, rfl, rfl⟩
set_option maxRecDepth 100000 in
theorem c_ML_find (l : Launch) (G : eg_G) (x : Nat) (r : Nat → Nat) (f : Nat → Int32) (b k : Nat) (y : Int32) (q PP : va_W) (ma : Nat → Nat) (hw : ALw G b k (lsF ma k) q) (hk : k ≤ 12) (nm : Nat → Int32) (hmo : ∀ i, i < k → ∃ vs, (ma i, .inr (15, vs)) ∈ PP ∧ vs[0]? = some (.int (nm i))) (v : Int32) : Ct l G y_ML_find 4 0 0 [.ref x, .int v] [LO x r f, ALo (r 2) b k y, q, PP] (rF (some (va_rf ((tfind (fun i => decide (nm i = v)) k).map ma))) [LO x r f, ALo (r 2) b k y, q, PP]) := by
  refine Ct.of cd_ML_find (eg_catb rfl) (Nat.le_of_ble_eq_true rfl) ?_
  intro Γ hG
  have hR := hG.rm
  show Ex G Γ mu_ML_find 0 [some (.ref x), some (.int v), none] [] [LO x r f, ALo (r 2) b k y, q, PP] 0 0
  have LL : ∀ j, j ≤ k → (∀ i, i < j → decide (nm i = v) = false) → Ex G Γ mu_ML_find 2 [some (.ref x), some (.int v), some (.int (nI j))] [] [LO x r f, ALo (r 2) b k y, q, PP] 0 0 := by
    refine eg_down k (fun j hj ih hno => ?_)
    refine ex_il d_ML_find_2 rfl ?_
    refine ex_al d_ML_find_3 rfl ?_
    refine ex_get1 0 fl_ML_26 d_ML_find_4 rfl rfl ?_
    refine ex_cF [1] hR (c_AL_size l G (ALo (r 2) b k y) (r 2) b k y List.mem_cons_self) (eg_invV 1 d_ML_find_7 cd_AL_size cx_ML_114 rfl rfl List.mem_cons_self rfl rfl) cd_AL_size rfl rfl (Nat.le_of_ble_eq_true rfl) (by decide) (by decide) (by decide) (by decide) rfl ?_
    refine ex_eqS [LO x r f, ALo (r 2) b k y, q, PP] rfl ?_
    refine ex_icmp_ge d_ML_find_10 (fun z => ?_) (fun z => ?_)
    · have z := le_n (a := k) z
      obtain rfl : k = j := by omega
      refine ex_null d_ML_find_49 ?_
      exact ex_aret [LO x r f, ALo (r 2) b k y, q, PP] (r := none) hG d_ML_find_50 rfl (Or.inl ⟨_, rfl⟩) (by decide) (by decide) (eg_sub.of rfl) ⟨by rw [tfind_none hno]; rfl, rfl⟩
    have hlt := lt_n (a := k) z
    obtain ⟨vs, hm, hv⟩ := hmo j hlt
    refine ex_al d_ML_find_13 rfl ?_
    refine ex_get1 0 fl_ML_26 d_ML_find_14 rfl rfl ?_
    refine ex_il d_ML_find_17 rfl ?_
    refine ex_cF [1, 2] hR (c_AL_getw l G (r 2) b k y (lsF ma k) q hw j hlt) (eg_invV 1 d_ML_find_18 cd_AL_get cx_ML_118 rfl rfl List.mem_cons_self rfl rfl) cd_AL_get rfl rfl (Nat.le_of_ble_eq_true rfl) (by decide) (by decide) (by decide) (by decide) rfl ?_
    refine ex_eqS [LO x r f, ALo (r 2) b k y, q, PP] rfl ?_
    refine ex_eqT [.ref (ma j)] (by rw [lsF_lt _ hlt]; rfl) ?_
    refine ex_cast 3 d_ML_find_21 kl_ML_30 (ci := 15) rfl rfl hm ?_
    refine ex_get 3 fl_ML_122 d_ML_find_24 rfl hm hv ?_
    refine ex_il d_ML_find_27 rfl ?_
    refine ex_icmp_ne d_ML_find_28 (fun z2 => ?_) (fun z2 => ?_)
    · refine ex_inc d_ML_find_43 rfl ?_
      refine ex_goto d_ML_find_46 ?_
      exact ih hlt (fun i hi => by rcases Nat.lt_or_ge i j with w | w; exact hno i w; rw [show i = j by omega]; exact decide_eq_false z2)
    refine ex_al d_ML_find_31 rfl ?_
    refine ex_get1 0 fl_ML_26 d_ML_find_32 rfl rfl ?_
    refine ex_il d_ML_find_35 rfl ?_
    refine ex_cF [1, 2] hR (c_AL_getw l G (r 2) b k y (lsF ma k) q hw j hlt) (eg_invV 1 d_ML_find_36 cd_AL_get cx_ML_118 rfl rfl List.mem_cons_self rfl rfl) cd_AL_get rfl rfl (Nat.le_of_ble_eq_true rfl) (by decide) (by decide) (by decide) (by decide) rfl ?_
    refine ex_eqS [LO x r f, ALo (r 2) b k y, q, PP] rfl ?_
    refine ex_eqT [.ref (ma j)] (by rw [lsF_lt _ hlt]; rfl) ?_
    refine ex_cast 3 d_ML_find_39 kl_ML_30 (ci := 15) rfl rfl hm ?_
    exact ex_aret [LO x r f, ALo (r 2) b k y, q, PP] (r := some (ma j)) hG d_ML_find_42 rfl (Or.inl ⟨_, rfl⟩) (by decide) (by decide) (eg_sub.of rfl) ⟨by rw [tfind_some hlt (decide_eq_true z2) hno]; rfl, rfl⟩
  refine ex_k d_ML_find_0 ?_
  refine ex_is d_ML_find_1 (Nat.le_of_ble_eq_true rfl) ?_
  exact LL 0 (Nat.zero_le _) (fun i hi => absurd hi (Nat.not_lt_zero _))
def ndQ (ma cn : Nat → Nat) (nf : Nat → Nat → Nat) (a i : Nat) : Bool := decide (¬ ma i = a) && rany (fun c => decide (lsF (nf i) (cn i) c = some a)) (cn i)
set_option maxRecDepth 100000 in
theorem c_ML_needed (l : Launch) (G : eg_G) (x : Nat) (r : Nat → Nat) (f : Nat → Int32) (b k : Nat) (y : Int32) (q PP : va_W) (ma : Nat → Nat) (hw : ALw G b k (lsF ma k) q) (hk : k ≤ 12) (cn : Nat → Nat) (nf : Nat → Nat → Nat) (hmi : ∀ i, i < k → ∃ vs : List Value, vs.length = 6 ∧ MOi G PP (ma i) vs (cn i) (nf i)) (hcn : ∀ i, i < k → cn i ≤ 12) (a : Nat) : Ct l G y_ML_needed 5 0 0 [.ref x, .ref a] [LO x r f, ALo (r 2) b k y, q, PP] (rF (some (.int (nI (rcnt (ndQ ma cn nf a) k)))) [LO x r f, ALo (r 2) b k y, q, PP]) := by
  refine Ct.of cd_ML_needed (eg_catb rfl) (Nat.le_of_ble_eq_true rfl) ?_
  intro Γ hG
  have hR := hG.rm
  show Ex G Γ mu_ML_needed 0 [some (.ref x), some (.ref a), none, none] [] [LO x r f, ALo (r 2) b k y, q, PP] 0 0
  have LL : ∀ j, j ≤ k → Ex G Γ mu_ML_needed 4 [some (.ref x), some (.ref a), some (.int (nI (rcnt (ndQ ma cn nf a) j))), some (.int (nI j))] [] [LO x r f, ALo (r 2) b k y, q, PP] 0 0 := by
    refine eg_down k (fun j hj ih => ?_)
    refine ex_il d_ML_needed_4 rfl ?_
    refine ex_al d_ML_needed_5 rfl ?_
    refine ex_get1 0 fl_ML_26 d_ML_needed_6 rfl rfl ?_
    refine ex_cF [1] hR (c_AL_size l G (ALo (r 2) b k y) (r 2) b k y List.mem_cons_self) (eg_invV 1 d_ML_needed_9 cd_AL_size cx_ML_114 rfl rfl List.mem_cons_self rfl rfl) cd_AL_size rfl rfl (Nat.le_of_ble_eq_true rfl) (by decide) (by decide) (by decide) (by decide) rfl ?_
    refine ex_eqS [LO x r f, ALo (r 2) b k y, q, PP] rfl ?_
    refine ex_icmp_ge d_ML_needed_12 (fun z => ?_) (fun z => ?_)
    · have z := le_n (a := k) z
      obtain rfl : k = j := by omega
      refine ex_il d_ML_needed_59 rfl ?_
      exact ex_iret [LO x r f, ALo (r 2) b k y, q, PP] hG d_ML_needed_60 rfl rfl (by decide) (by decide) (eg_sub.of rfl) ⟨rfl, rfl⟩
    have hlt := lt_n (a := k) z
    have J51 : ∀ z : Int32, z = bI (ndQ ma cn nf a j) → Ex G Γ mu_ML_needed 51 [some (.ref x), some (.ref a), some (.int (nI (rcnt (ndQ ma cn nf a) j))), some (.int (nI j))] [.int z, .int (nI (rcnt (ndQ ma cn nf a) j))] [LO x r f, ALo (r 2) b k y, q, PP] 0 0 := by
      intro z hz
      subst hz
      refine ex_iadd d_ML_needed_51 ?_
      rw [rcnt_I0]
      refine ex_is d_ML_needed_52 (Nat.le_of_ble_eq_true rfl) ?_
      refine ex_inc d_ML_needed_53 rfl ?_
      refine ex_goto d_ML_needed_56 ?_
      exact ih hlt
    obtain ⟨vs, hvl, nl, b2, cap, y2, hm, ho, hq⟩ := hmi j hlt
    refine ex_il d_ML_needed_15 rfl ?_
    refine ex_al d_ML_needed_16 rfl ?_
    refine ex_get1 0 fl_ML_26 d_ML_needed_17 rfl rfl ?_
    refine ex_il d_ML_needed_20 rfl ?_
    refine ex_cF [1, 2] hR (c_AL_getw l G (r 2) b k y (lsF ma k) q hw j hlt) (eg_invV 1 d_ML_needed_21 cd_AL_get cx_ML_118 rfl rfl List.mem_cons_self rfl rfl) cd_AL_get rfl rfl (Nat.le_of_ble_eq_true rfl) (by decide) (by decide) (by decide) (by decide) rfl ?_
    refine ex_eqS [LO x r f, ALo (r 2) b k y, q, PP] rfl ?_
    refine ex_eqT [.ref (ma j), .int (nI (rcnt (ndQ ma cn nf a) j))] (by rw [lsF_lt _ hlt]; rfl) ?_
    refine ex_al d_ML_needed_24 rfl ?_
    refine ex_acmp_eq (rx := some (ma j)) (ry := some a) d_ML_needed_25 (fun z2 => ?_) (fun z2 => ?_)
    · refine ex_k d_ML_needed_50 ?_
      exact J51 _ (by rw [ndQ, decide_eq_false (fun w => w (Option.some.inj z2))]; rfl)
    have z3 : ¬ ma j = a := fun w => z2 (by rw [w])
    refine ex_al d_ML_needed_28 rfl ?_
    refine ex_get1 0 fl_ML_26 d_ML_needed_29 rfl rfl ?_
    refine ex_il d_ML_needed_32 rfl ?_
    refine ex_cF [1, 2] hR (c_AL_getw l G (r 2) b k y (lsF ma k) q hw j hlt) (eg_invV 1 d_ML_needed_33 cd_AL_get cx_ML_118 rfl rfl List.mem_cons_self rfl rfl) cd_AL_get rfl rfl (Nat.le_of_ble_eq_true rfl) (by decide) (by decide) (by decide) (by decide) rfl ?_
    refine ex_eqS [LO x r f, ALo (r 2) b k y, q, PP] rfl ?_
    refine ex_eqT [.ref (ma j), .int (nI (rcnt (ndQ ma cn nf a) j))] (by rw [lsF_lt _ hlt]; rfl) ?_
    refine ex_cast 3 d_ML_needed_36 kl_ML_30 (ci := 15) rfl rfl hm ?_
    refine ex_al d_ML_needed_39 rfl ?_
    refine ex_cF [3] hR (c_Mo_needs l G PP (ma j) nl b2 (cn j) cap a y2 (lsF (nf j) (cn j)) (vs ++ [.ref nl]) (by rw [List.getElem?_append_right (by omega), hvl]; rfl) hm ho (by have := hcn j hlt; omega) hq) (eg_invV 3 d_ML_needed_40 cd_Mo_needs cx_ML_204 rfl rfl hm rfl rfl) cd_Mo_needs rfl rfl (Nat.le_of_ble_eq_true rfl) (by decide) (by decide) (by decide) (by decide) rfl ?_
    refine ex_eqS [LO x r f, ALo (r 2) b k y, q, PP] rfl ?_
    refine ex_if_eq d_ML_needed_43 (fun w => ?_) (fun w => ?_)
    · refine ex_k d_ML_needed_50 ?_
      exact J51 _ (by rw [ndQ, bI_0.mp w, Bool.and_false]; rfl)
    refine ex_k d_ML_needed_46 ?_
    refine ex_goto d_ML_needed_47 ?_
    exact J51 _ (by rw [ndQ, decide_eq_true z3, show rany (fun c => decide (lsF (nf j) (cn j) c = some a)) (cn j) = true from by cases hh : rany (fun c => decide (lsF (nf j) (cn j) c = some a)) (cn j) with | true => rfl | false => rw [hh] at w; exact absurd rfl w]; rfl)
  refine ex_k d_ML_needed_0 ?_
  refine ex_is d_ML_needed_1 (Nat.le_of_ble_eq_true rfl) ?_
  refine ex_k d_ML_needed_2 ?_
  refine ex_is d_ML_needed_3 (Nat.le_of_ble_eq_true rfl) ?_
  exact LL 0 (Nat.zero_le _)
set_option maxRecDepth 100000 in
theorem c_ML_at (l : Launch) (G : eg_G) (x : Nat) (r : Nat → Nat) (f : Nat → Int32) (b k : Nat) (y : Int32) (q PP : va_W) (ma : Nat → Nat) (hw : ALw G b k (lsF ma k) q) (hk : k ≤ 12) (nm : Nat → Int32) (hmo : ∀ i, i < k → ∃ vs, (ma i, .inr (15, vs)) ∈ PP ∧ vs[0]? = some (.int (nm i))) (v : Int32) : Ct l G y_ML_at 4 0 0 [.ref x, .int v] [LO x r f, ALo (r 2) b k y, q, PP] (rF (some (.int (if v < 0 ∨ nI k ≤ v then -1 else nm v.toNatClampNeg))) [LO x r f, ALo (r 2) b k y, q, PP]) := by
  refine Ct.of cd_ML_at (eg_catb rfl) (Nat.le_of_ble_eq_true rfl) ?_
  intro Γ hG
  have hR := hG.rm
  show Ex G Γ mu_ML_at 0 [some (.ref x), some (.int v)] [] [LO x r f, ALo (r 2) b k y, q, PP] 0 0
  refine ex_il d_ML_at_0 rfl ?_
  refine ex_if_lt d_ML_at_1 (fun z => ?_) (fun z => ?_)
  · refine ex_k d_ML_at_32 ?_
    exact ex_iret [LO x r f, ALo (r 2) b k y, q, PP] hG d_ML_at_33 rfl rfl (by decide) (by decide) (eg_sub.of rfl) ⟨by rw [if_pos (Or.inl z)], rfl⟩
  refine ex_il d_ML_at_4 rfl ?_
  refine ex_al d_ML_at_5 rfl ?_
  refine ex_get1 0 fl_ML_26 d_ML_at_6 rfl rfl ?_
  refine ex_cF [1] hR (c_AL_size l G (ALo (r 2) b k y) (r 2) b k y List.mem_cons_self) (eg_invV 1 d_ML_at_9 cd_AL_size cx_ML_114 rfl rfl List.mem_cons_self rfl rfl) cd_AL_size rfl rfl (Nat.le_of_ble_eq_true rfl) (by decide) (by decide) (by decide) (by decide) rfl ?_
  refine ex_eqS [LO x r f, ALo (r 2) b k y, q, PP] rfl ?_
  refine ex_icmp_ge d_ML_at_12 (fun z2 => ?_) (fun z2 => ?_)
  · refine ex_k d_ML_at_32 ?_
    exact ex_iret [LO x r f, ALo (r 2) b k y, q, PP] hG d_ML_at_33 rfl rfl (by decide) (by decide) (eg_sub.of rfl) ⟨by rw [if_pos (Or.inr z2)], rfl⟩
  obtain ⟨j, hj, rfl⟩ := nI_of z
  have hlt : j < k := lt_n (a := k) z2
  obtain ⟨vs, hm, hv⟩ := hmo j hlt
  refine ex_al d_ML_at_15 rfl ?_
  refine ex_get1 0 fl_ML_26 d_ML_at_16 rfl rfl ?_
  refine ex_il d_ML_at_19 rfl ?_
  refine ex_cF [1, 2] hR (c_AL_getw l G (r 2) b k y (lsF ma k) q hw j hlt) (eg_invV 1 d_ML_at_20 cd_AL_get cx_ML_118 rfl rfl List.mem_cons_self rfl rfl) cd_AL_get rfl rfl (Nat.le_of_ble_eq_true rfl) (by decide) (by decide) (by decide) (by decide) rfl ?_
  refine ex_eqS [LO x r f, ALo (r 2) b k y, q, PP] rfl ?_
  refine ex_eqT [.ref (ma j)] (by rw [lsF_lt _ hlt]; rfl) ?_
  refine ex_cast 3 d_ML_at_23 kl_ML_30 (ci := 15) rfl rfl hm ?_
  refine ex_get 3 fl_ML_122 d_ML_at_26 rfl hm hv ?_
  refine ex_goto d_ML_at_29 ?_
  exact ex_iret [LO x r f, ALo (r 2) b k y, q, PP] hG d_ML_at_33 rfl rfl (by decide) (by decide) (eg_sub.of rfl) ⟨by rw [if_neg (fun w => w.elim z z2), nI_clamp hj], rfl⟩
def moR (k : Nat) (nm ba si ep : Nat → Int32) (ma cn : Nat → Nat) (nf : Nat → Nat → Nat) (v w : Int32) : Int32 := match tfind (fun i => decide (nm i = v)) k with
  | none => -1
  | some i => if w = 0 then ba i else if w = 1 then si i else if w = 2 then ep i else if w = 3 then nI (rcnt (ndQ ma cn nf (ma i)) k) else if w = 4 then nI (cn i) else -1
set_option maxRecDepth 100000 in
theorem c_ML_module (l : Launch) (G : eg_G) (x : Nat) (r : Nat → Nat) (f : Nat → Int32) (b k : Nat) (y : Int32) (q PP : va_W) (ma : Nat → Nat) (hw : ALw G b k (lsF ma k) q) (hk : k ≤ 12) (nm ba si gu ex ep : Nat → Int32) (cn : Nat → Nat) (nf : Nat → Nat → Nat) (hmi : ∀ i, i < k → MOi G PP (ma i) (mvs (nm i) (ba i) (si i) (gu i) (ex i) (ep i)) (cn i) (nf i)) (hcn : ∀ i, i < k → cn i ≤ 12) (v w : Int32) : Ct l G y_ML_module 6 0 0 [.ref x, .int v, .int w] [LO x r f, ALo (r 2) b k y, q, PP] (rF (some (.int (moR k nm ba si ep ma cn nf v w))) [LO x r f, ALo (r 2) b k y, q, PP]) := by
  refine Ct.of cd_ML_module (eg_catb rfl) (Nat.le_of_ble_eq_true rfl) ?_
  intro Γ hG
  have hR := hG.rm
  show Ex G Γ mu_ML_module 0 [some (.ref x), some (.int v), some (.int w), none] [] [LO x r f, ALo (r 2) b k y, q, PP] 0 0
  have hmo : ∀ i, i < k → ∃ vs, (ma i, .inr (15, vs)) ∈ PP ∧ vs[0]? = some (.int (nm i)) := fun i hi => by
    obtain ⟨nl, -, -, -, hm, -⟩ := hmi i hi
    exact ⟨_, hm, rfl⟩
  refine ex_al d_ML_module_0 rfl ?_
  refine ex_il d_ML_module_1 rfl ?_
  refine ex_cF [0, 1, 2, 3] hR (c_ML_find l G x r f b k y q PP ma hw hk nm hmo v) (eg_invV 0 d_ML_module_2 cd_ML_find cx_ML_237 rfl rfl List.mem_cons_self rfl rfl) cd_ML_find rfl rfl (Nat.le_of_ble_eq_true rfl) (by decide) (by decide) (by decide) (by decide) rfl ?_
  refine ex_eqS [LO x r f, ALo (r 2) b k y, q, PP] rfl ?_
  refine ex_asq d_ML_module_5 (Nat.le_of_ble_eq_true rfl) ?_
  refine ex_alq d_ML_module_6 rfl ?_
  cases ho : tfind (fun i => decide (nm i = v)) k with
  | none =>
    refine ex_ifnonnull (r := none) d_ML_module_7 (fun a z => absurd z (by simp)) (fun _ => ?_)
    refine ex_k d_ML_module_10 ?_
    exact ex_iret [LO x r f, ALo (r 2) b k y, q, PP] hG d_ML_module_11 rfl rfl (by decide) (by decide) (eg_sub.of rfl) ⟨by rw [moR, ho], rfl⟩
  | some i =>
    have hi : i < k := (tfind_lt ho).1
    obtain ⟨nl, b2, cap, y2, hm, hol, hq⟩ := hmi i hi
    refine ex_ifnonnull (r := some (ma i)) d_ML_module_7 (fun a z => ?_) (fun z => absurd z (by simp))
    clear z
    refine ex_eqL [some (.ref x), some (.int v), some (.int w), some (.ref (ma i))] rfl ?_
    refine ex_il d_ML_module_12 rfl ?_
    by_cases e0 : w = 0
    · refine ex_eqT (.int 0 :: _) (by rw [e0]) ?_
      refine ex_tabIn (tgt := 48) d_ML_module_13 (by decide) (by decide) (by rfl) (by decide) ?_
      refine ex_al d_ML_module_48 rfl ?_
      refine ex_get 3 fl_ML_149 d_ML_module_49 rfl hm rfl ?_
      exact ex_iret [LO x r f, ALo (r 2) b k y, q, PP] hG d_ML_module_52 rfl rfl (by decide) (by decide) (eg_sub.of rfl) ⟨by rw [moR, ho]; show _ = Sum.inl (some (Value.int (if w = 0 then _ else _))); rw [if_pos e0], rfl⟩
    by_cases e1 : w = 1
    · refine ex_eqT (.int 1 :: _) (by rw [e1]) ?_
      refine ex_tabIn (tgt := 53) d_ML_module_13 (by decide) (by decide) (by rfl) (by decide) ?_
      refine ex_al d_ML_module_53 rfl ?_
      refine ex_get 3 fl_ML_152 d_ML_module_54 rfl hm rfl ?_
      exact ex_iret [LO x r f, ALo (r 2) b k y, q, PP] hG d_ML_module_57 rfl rfl (by decide) (by decide) (eg_sub.of rfl) ⟨by rw [moR, ho]; show _ = Sum.inl (some (Value.int (if w = 0 then _ else _))); rw [if_neg e0, if_pos e1], rfl⟩
    by_cases e2 : w = 2
    · refine ex_eqT (.int 2 :: _) (by rw [e2]) ?_
      refine ex_tabIn (tgt := 58) d_ML_module_13 (by decide) (by decide) (by rfl) (by decide) ?_
      refine ex_al d_ML_module_58 rfl ?_
      refine ex_get 3 fl_ML_215 d_ML_module_59 rfl hm rfl ?_
      exact ex_iret [LO x r f, ALo (r 2) b k y, q, PP] hG d_ML_module_62 rfl rfl (by decide) (by decide) (eg_sub.of rfl) ⟨by rw [moR, ho]; show _ = Sum.inl (some (Value.int (if w = 0 then _ else _))); rw [if_neg e0, if_neg e1, if_pos e2], rfl⟩
    by_cases e3 : w = 3
    · refine ex_eqT (.int 3 :: _) (by rw [e3]) ?_
      refine ex_tabIn (tgt := 63) d_ML_module_13 (by decide) (by decide) (by rfl) (by decide) ?_
      refine ex_al d_ML_module_63 rfl ?_
      refine ex_al d_ML_module_64 rfl ?_
      refine ex_cF [0, 1, 2, 3] hR (c_ML_needed l G x r f b k y q PP ma hw hk cn nf (fun i hi => ⟨_, rfl, hmi i hi⟩) hcn (ma i)) (eg_invV 0 d_ML_module_65 cd_ML_needed cx_ML_266 rfl rfl List.mem_cons_self rfl rfl) cd_ML_needed rfl rfl (Nat.le_of_ble_eq_true rfl) (by decide) (by decide) (by decide) (by decide) rfl ?_
      refine ex_eqS [LO x r f, ALo (r 2) b k y, q, PP] rfl ?_
      exact ex_iret [LO x r f, ALo (r 2) b k y, q, PP] hG d_ML_module_68 rfl rfl (by decide) (by decide) (eg_sub.of rfl) ⟨by rw [moR, ho]; show _ = Sum.inl (some (Value.int (if w = 0 then _ else _))); rw [if_neg e0, if_neg e1, if_neg e2, if_pos e3], rfl⟩
    by_cases e4 : w = 4
    · refine ex_eqT (.int 4 :: _) (by rw [e4]) ?_
      refine ex_tabIn (tgt := 69) d_ML_module_13 (by decide) (by decide) (by rfl) (by decide) ?_
      refine ex_al d_ML_module_69 rfl ?_
      refine ex_get 3 fl_ML_208 d_ML_module_70 rfl hm rfl ?_
      refine ex_cF [3] hR (c_AL_size l G PP nl b2 (cn i) y2 hol) (eg_invV 3 d_ML_module_73 cd_AL_size cx_ML_114 rfl rfl hol rfl rfl) cd_AL_size rfl rfl (Nat.le_of_ble_eq_true rfl) (by decide) (by decide) (by decide) (by decide) rfl ?_
      refine ex_eqS [LO x r f, ALo (r 2) b k y, q, PP] rfl ?_
      exact ex_iret [LO x r f, ALo (r 2) b k y, q, PP] hG d_ML_module_76 rfl rfl (by decide) (by decide) (eg_sub.of rfl) ⟨by rw [moR, ho]; show _ = Sum.inl (some (Value.int (if w = 0 then _ else _))); rw [if_neg e0, if_neg e1, if_neg e2, if_neg e3, if_pos e4], rfl⟩
    refine ex_tabOut (tgt := 77) d_ML_module_13 (by have a0 := ne_t (k := 0) (by decide) e0; have a1 := ne_t (k := 1) (by decide) e1; have a2 := ne_t (k := 2) (by decide) e2; have a3 := ne_t (k := 3) (by decide) e3; have a4 := ne_t (k := 4) (by decide) e4; omega) (by decide) ?_
    refine ex_k d_ML_module_77 ?_
    exact ex_iret [LO x r f, ALo (r 2) b k y, q, PP] hG d_ML_module_78 rfl rfl (by decide) (by decide) (eg_sub.of rfl) ⟨by rw [moR, ho]; show _ = Sum.inl (some (Value.int (if w = 0 then _ else _))); rw [if_neg e0, if_neg e1, if_neg e2, if_neg e3, if_neg e4], rfl⟩
  
