/-! THE SYMBOLS, 2: adding -/
set_option maxRecDepth 100000 in
theorem c_Ss_add (l : Launch) (G : eg_G) (so pl gn : Nat) (many marks : Int32) (F : Nat → Option Nat) (L : List sE) (PS : va_W) (hT : TB F gn L) (hPS : ∀ e ∈ L, syC e ∈ PS) (e : sE) (he : syC e ∈ PS) (hL : L.length < 64) (hg : e.1 ≠ gn) (hne : e.1 ∉ L.map (fun e => e.1)) : Ct l G y_Ss_add 2 0 0 [.ref so, .ref e.1] [SO so pl gn many marks, SPl G pl F, SG gn, PS] (fun o S2 => ∃ F2 m2, o = .inl none ∧ S2 = [SO so pl gn (many + 1) m2, SPl G pl F2, SG gn, PS] ∧ TB F2 gn (L ++ [e])) := by
  refine Ct.of cd_Ss_add (eg_catb rfl) (Nat.le_of_ble_eq_true rfl) ?_
  intro Γ hG
  have hR := hG.rm
  show Ex G Γ mu_Ss_add 0 [some (.ref so), some (.ref e.1), none] [] [SO so pl gn many marks, SPl G pl F, SG gn, PS] 0 0
  obtain ⟨hf1, hf2⟩ := fsI_e e.2.1
  obtain ⟨d0, hd0, hw⟩ := hT.way hL (fsN e.2.1) hf1
  have J40 : ∀ j, j < 64 → (F ((fsN e.2.1 + j) % 64) = none ∨ F ((fsN e.2.1 + j) % 64) = some gn) → (∀ d', d' < j → F ((fsN e.2.1 + d') % 64) ≠ none) → Ex G Γ mu_Ss_add 40 [some (.ref so), some (.ref e.1), some (.int (nI ((fsN e.2.1 + j) % 64)))] [] [SO so pl gn many marks, SPl G pl F, SG gn, PS] 0 0 := by
    intro j hj hF hn
    have hp : (fsN e.2.1 + j) % 64 < 64 := Nat.mod_lt _ (by decide)
    refine ex_al d_Ss_add_40 rfl ?_
    refine ex_dup d_Ss_add_41 rfl ?_
    refine ex_get1 0 fl_Ss_33 d_Ss_add_42 rfl rfl ?_
    refine ex_al d_Ss_add_45 rfl ?_
    refine ex_get1 0 fl_Ss_11 d_Ss_add_46 rfl rfl ?_
    refine ex_il d_Ss_add_49 rfl ?_
    refine ex_ald51 1 d_Ss_add_50 rfl (ix_e hp) ?_
    refine ex_al d_Ss_add_51 rfl ?_
    refine ex_get1 0 fl_Ss_20 d_Ss_add_52 rfl rfl ?_
    have J63 : ∀ z : Int32, Ex G Γ mu_Ss_add 63 [some (.ref so), some (.ref e.1), some (.int (nI ((fsN e.2.1 + j) % 64)))] [.int z, .int marks, .ref so] [SO so pl gn many marks, SPl G pl F, SG gn, PS] 0 0 := by
      intro z
      refine ex_isub d_Ss_add_63 ?_
      refine ex_put1 0 wl_Ss_33 d_Ss_add_64 rfl rfl rfl (Nat.le_of_ble_eq_true rfl) ?_
      refine ex_eqS [SO so pl gn many (marks - z), SPl G pl F, SG gn, PS] rfl ?_
      refine ex_al d_Ss_add_67 rfl ?_
      refine ex_get1 0 fl_Ss_11 d_Ss_add_68 rfl rfl ?_
      refine ex_il d_Ss_add_71 rfl ?_
      refine ex_al d_Ss_add_72 rfl ?_
      refine ex_ast5 1 3 d_Ss_add_73 rfl (ix_e hp) rfl he rfl (Or.inl rfl) ?_
      refine ex_al d_Ss_add_74 rfl ?_
      refine ex_dup d_Ss_add_75 rfl ?_
      refine ex_get1 0 fl_Ss_36 d_Ss_add_76 rfl rfl ?_
      refine ex_k d_Ss_add_79 ?_
      refine ex_iadd d_Ss_add_80 ?_
      refine ex_put1 0 wl_Ss_36 d_Ss_add_81 rfl rfl rfl (Nat.le_of_ble_eq_true rfl) ?_
      refine ex_eqS [SO so pl gn (many + 1) (marks - z), SPl G pl (va_up F ((fsN e.2.1 + j) % 64) (some e.1)), SG gn, PS] rfl ?_
      exact ex_vret [SO so pl gn (many + 1) (marks - z), SPl G pl (va_up F ((fsN e.2.1 + j) % 64) (some e.1)), SG gn, PS] hG d_Ss_add_84 rfl (by decide) (by decide) (eg_sub.of rfl) ⟨_, _, rfl, rfl, hT.add e hj hF hn hg hne⟩
    refine ex_acmp_ne (ry := some gn) d_Ss_add_55 (fun _ => ?_) (fun _ => ?_)
    · refine ex_k d_Ss_add_62 ?_
      exact J63 _
    · refine ex_k d_Ss_add_58 ?_
      refine ex_goto d_Ss_add_59 ?_
      exact J63 _
  have LL : ∀ j, j ≤ d0 → (∀ d', d' < j → F ((fsN e.2.1 + d') % 64) ≠ none) → Ex G Γ mu_Ss_add 8 [some (.ref so), some (.ref e.1), some (.int (nI ((fsN e.2.1 + j) % 64)))] [] [SO so pl gn many marks, SPl G pl F, SG gn, PS] 0 0 := by
    refine eg_down d0 (fun j hj ih hn => ?_)
    have hp : (fsN e.2.1 + j) % 64 < 64 := Nat.mod_lt _ (by decide)
    refine ex_al d_Ss_add_8 rfl ?_
    refine ex_get1 0 fl_Ss_11 d_Ss_add_9 rfl rfl ?_
    refine ex_il d_Ss_add_12 rfl ?_
    refine ex_ald51 1 d_Ss_add_13 rfl (ix_e hp) ?_
    refine ex_ifnull d_Ss_add_14 (fun hy => J40 j (by omega) (Or.inl hy) hn) (fun y hy => ?_)
    refine ex_al d_Ss_add_17 rfl ?_
    refine ex_get1 0 fl_Ss_11 d_Ss_add_18 rfl rfl ?_
    refine ex_il d_Ss_add_21 rfl ?_
    refine ex_ald51 1 d_Ss_add_22 rfl (ix_e hp) ?_
    refine ex_al d_Ss_add_23 rfl ?_
    refine ex_get1 0 fl_Ss_20 d_Ss_add_24 rfl rfl ?_
    refine ex_acmp_eq (ry := some gn) d_Ss_add_27 (fun hy => J40 j (by omega) (Or.inr hy) hn) (fun hy2 => ?_)
    have hlt : j < d0 := by
      rcases Nat.lt_or_ge j d0 with z | z
      · exact z
      · obtain rfl : j = d0 := by omega
        rcases hw with y2 | y2
        · rw [hy] at y2; cases y2
        · exact absurd y2 hy2
    refine ex_il d_Ss_add_30 rfl ?_
    refine ex_k d_Ss_add_31 ?_
    refine ex_iadd d_Ss_add_32 ?_
    refine ex_k d_Ss_add_33 ?_
    refine ex_irem d_Ss_add_35 (by decide) ?_
    refine ex_eqT [.int (nI ((fsN e.2.1 + (j + 1)) % 64))] (by rw [← nx64 rfl]) ?_
    refine ex_is d_Ss_add_36 (Nat.le_of_ble_eq_true rfl) ?_
    refine ex_goto d_Ss_add_37 ?_
    exact ih hlt (fun d hd => by
      rcases Nat.lt_or_ge d j with z | z
      · exact hn d z
      · rw [show d = j by omega, hy]; simp)
  refine ex_al d_Ss_add_0 rfl ?_
  refine ex_get 3 fl_Ss_29 d_Ss_add_1 rfl he rfl ?_
  refine ex_cP hR (c_Ss_first l G e.2.1) (eg_invS d_Ss_add_4 cd_Ss_first cx_Ss_25 rfl rfl) cd_Ss_first (Nat.le_of_ble_eq_true rfl) (by decide) (by decide) (by decide) (by decide) rfl ?_
  refine ex_is d_Ss_add_7 (Nat.le_of_ble_eq_true rfl) ?_
  exact ex_eqL [some (.ref so), some (.ref e.1), some (.int (nI ((fsN e.2.1 + 0) % 64)))] (by rw [Nat.add_zero, Nat.mod_eq_of_lt hf1, ← hf2]; rfl) (LL 0 (Nat.zero_le _) (fun d hd => absurd hd (Nat.not_lt_zero _)))
set_option maxRecDepth 100000 in
theorem c_Sy_init (l : Launch) (G : eg_G) (h : Nat) (u v w : Int32) (r : Option Nat) : Ct l G y_Sy_init 2 0 0 [.ref h, .int u, .int v, .int w, va_rf r] [SG h] (rF none [[syC (h, u, v, w, r)]]) := by
  refine Ct.of cd_Sy_init (by intro x hx; simp only [List.mem_cons, List.not_mem_nil, or_false] at hx; rcases hx with rfl | rfl | rfl | rfl | rfl <;> first | rfl | (cases r <;> rfl)) (Nat.le_of_ble_eq_true rfl) ?_
  intro Γ hG
  have hR := hG.rm
  show Ex G Γ mu_Sy_init 0 [some (.ref h), some (.int u), some (.int v), some (.int w), some (va_rf r)] [] [SG h] 0 0
  refine ex_al d_Sy_init_0 rfl ?_
  refine ex_oinit hR d_Sy_init_1 ol_Sy_1 oi_inst oi_code (Nat.le_of_ble_eq_true rfl) ?_
  refine ex_al d_Sy_init_4 rfl ?_
  refine ex_il d_Sy_init_5 rfl ?_
  refine ex_put1 0 wl_Sy_7 d_Sy_init_6 rfl rfl rfl (Nat.le_of_ble_eq_true rfl) ?_
  refine ex_al d_Sy_init_9 rfl ?_
  refine ex_il d_Sy_init_10 rfl ?_
  refine ex_put1 0 wl_Sy_13 d_Sy_init_11 rfl rfl rfl (Nat.le_of_ble_eq_true rfl) ?_
  refine ex_al d_Sy_init_14 rfl ?_
  refine ex_il d_Sy_init_15 rfl ?_
  refine ex_put1 0 wl_Sy_16 d_Sy_init_16 rfl rfl rfl (Nat.le_of_ble_eq_true rfl) ?_
  refine ex_al d_Sy_init_19 rfl ?_
  refine ex_alq d_Sy_init_20 rfl ?_
  refine ex_put1 0 wl_Sy_19 d_Sy_init_22 rfl (by cases r <;> rfl) (by cases r <;> rfl) (Nat.le_of_ble_eq_true rfl) ?_
  exact ex_vret [[syC (h, u, v, w, r)]] hG d_Sy_init_25 rfl (by decide) (by decide) (eg_sub.of rfl) ⟨rfl, rfl⟩
