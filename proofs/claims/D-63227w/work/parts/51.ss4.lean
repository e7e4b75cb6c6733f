/-! THE SYMBOLS, 4: drop, a new table -/
def nOf (ma : Nat) (e : sE) : Bool := decide (e.2.2.2.2 ≠ some ma)
theorem flt_del {L : List sE} {e : sE} {ma : Nat} (hi : ∀ e' ∈ L, e'.1 = e.1 → e' = e) (ho : e.2.2.2.2 = some ma) : (L.filter (fun x => decide (x.1 ≠ e.1))).filter (nOf ma) = L.filter (nOf ma) := by
  rw [List.filter_filter]
  refine List.filter_congr fun x hx => ?_
  by_cases z : x.1 = e.1
  · rw [hi x hx z]
    simp [nOf, ho]
  · simp [z]
set_option maxRecDepth 100000 in
theorem c_Ss_drop (l : Launch) (G : eg_G) (so pl gn ma : Nat) (marks : Int32) (F : Nat → Option Nat) (L : List sE) (PS : va_W) (hT : TB F gn L) (hPS : ∀ e ∈ L, syC e ∈ PS) (hL : L.length ≤ 40) : Ct l G y_Ss_drop 4 1 64 [.ref so, .ref ma] [SO so pl gn (nI L.length) marks, SPl G pl F, SG gn, PS] (fun o S2 => ∃ pl2 F2 m2, o = .inl none ∧ S2 = [SO so pl2 gn (nI (L.filter (nOf ma)).length) m2, SPl G pl2 F2, SG gn, PS] ∧ TB F2 gn (L.filter (nOf ma))) := by
  refine Ct.of cd_Ss_drop (eg_catb rfl) (Nat.le_of_ble_eq_true rfl) ?_
  intro Γ hG
  have hR := hG.rm
  show Ex G Γ mu_Ss_drop 0 [some (.ref so), some (.ref ma), none] [] [SO so pl gn (nI L.length) marks, SPl G pl F, SG gn, PS] 0 0
  have LL : ∀ k, k ≤ 64 → ∀ (F2 : Nat → Option Nat) (L2 : List sE) (m2 : Int32), TB F2 gn L2 → (∀ e ∈ L2, e ∈ L) → L2.length ≤ L.length → L2.filter (nOf ma) = L.filter (nOf ma) → (∀ e ∈ L2, e.2.2.2.2 = some ma → ∀ j, j < k → F2 j ≠ some e.1) → Ex G Γ mu_Ss_drop 2 [some (.ref so), some (.ref ma), some (.int (nI k))] [] [SO so pl gn (nI L2.length) m2, SPl G pl F2, SG gn, PS] 0 0 := by
    refine eg_down 64 (fun k hk ih F2 L2 m2 hT2 hs hl hfl hno => ?_)
    refine ex_il d_Ss_drop_2 rfl ?_
    refine ex_k d_Ss_drop_3 ?_
    refine ex_icmp_ge d_Ss_drop_5 (fun z => ?_) (fun z => ?_)
    · have z := le_n (a := 64) z
      have hall : L2.filter (nOf ma) = L2 := by
        rw [List.filter_eq_self]
        intro e he
        refine decide_eq_true (fun ho => ?_)
        obtain ⟨d, hd, h2, -⟩ := hT2.2.2 e he
        exact hno e he ho _ (Nat.lt_of_lt_of_le (Nat.mod_lt _ (by decide)) z) h2
      obtain rfl : L2 = L.filter (nOf ma) := by rw [← hfl, hall]
      refine ex_al d_Ss_drop_82 rfl ?_
      refine ex_get1 0 fl_Ss_36 d_Ss_drop_83 rfl rfl ?_
      refine ex_al d_Ss_drop_86 rfl ?_
      refine ex_get1 0 fl_Ss_33 d_Ss_drop_87 rfl rfl ?_
      refine ex_iadd d_Ss_drop_90 ?_
      refine ex_k d_Ss_drop_91 ?_
      refine ex_icmp_le d_Ss_drop_93 (fun _ => ?_) (fun _ => ?_)
      · exact ex_vret [SO so pl gn (nI (L.filter (nOf ma)).length) m2, SPl G pl F2, SG gn, PS] hG d_Ss_drop_100 rfl (by decide) (by decide) (eg_sub.of rfl) ⟨_, _, _, rfl, rfl, hT2⟩
      · refine ex_al d_Ss_drop_96 rfl ?_
        refine ex_call [0, 1, 2, 3] hR (c_Ss_clean l G so pl gn (nI (L.filter (nOf ma)).length) m2 F2 (L.filter (nOf ma)) PS hT2 (fun e he => hPS e (hs e he)) (by omega)) (eg_invV 0 d_Ss_drop_97 cd_Ss_clean cx_Ss_43 rfl rfl List.mem_cons_self rfl rfl) cd_Ss_clean rfl rfl (Nat.le_of_ble_eq_true rfl) (by decide) (by decide) (by decide) (by decide) (fun v S1 hK1 => ?_) (fun E S1 hK1 => ?_)
        · obtain ⟨pl2, F3, m3, h1, rfl, h3⟩ := hK1
          cases h1
          exact ex_vret [SO so pl2 gn (nI (L.filter (nOf ma)).length) m3, SPl G pl2 F3, SG gn, PS] hG d_Ss_drop_100 rfl (by decide) (by decide) (eg_sub.of rfl) ⟨_, _, _, rfl, rfl, h3⟩
        · obtain ⟨pl2, F3, m3, h1, -⟩ := hK1
          cases h1
    · have hlt := lt_n (a := 64) z
      have J76 : ∀ (F3 : Nat → Option Nat) (L3 : List sE) (m3 : Int32), TB F3 gn L3 → (∀ e ∈ L3, e ∈ L) → L3.length ≤ L.length → L3.filter (nOf ma) = L.filter (nOf ma) → (∀ e ∈ L3, e.2.2.2.2 = some ma → ∀ j, j < k + 1 → F3 j ≠ some e.1) → Ex G Γ mu_Ss_drop 76 [some (.ref so), some (.ref ma), some (.int (nI k))] [] [SO so pl gn (nI L3.length) m3, SPl G pl F3, SG gn, PS] 0 0 := by
        intro F3 L3 m3 g1 g2 g3 g4 g5
        refine ex_inc d_Ss_drop_76 rfl ?_
        refine ex_goto d_Ss_drop_79 ?_
        exact ih hlt F3 L3 m3 g1 g2 g3 g4 g5
      have hstay : (∀ e ∈ L2, e.2.2.2.2 = some ma → F2 k ≠ some e.1) → ∀ e ∈ L2, e.2.2.2.2 = some ma → ∀ j, j < k + 1 → F2 j ≠ some e.1 := fun hk2 e he ho j hj => by
        rcases Nat.lt_or_ge j k with y | y
        · exact hno e he ho j y
        · rw [show j = k by omega]; exact hk2 e he ho
      refine ex_al d_Ss_drop_8 rfl ?_
      refine ex_get1 0 fl_Ss_11 d_Ss_drop_9 rfl rfl ?_
      refine ex_il d_Ss_drop_12 rfl ?_
      refine ex_ald51 1 d_Ss_drop_13 rfl (ix_e hlt) ?_
      refine ex_ifnull d_Ss_drop_14 (fun hy => J76 F2 L2 m2 hT2 hs hl hfl (hstay (fun e he ho => by rw [hy]; simp))) (fun y hy => ?_)
      refine ex_al d_Ss_drop_17 rfl ?_
      refine ex_get1 0 fl_Ss_11 d_Ss_drop_18 rfl rfl ?_
      refine ex_il d_Ss_drop_21 rfl ?_
      refine ex_ald51 1 d_Ss_drop_22 rfl (ix_e hlt) ?_
      refine ex_al d_Ss_drop_23 rfl ?_
      refine ex_get1 0 fl_Ss_20 d_Ss_drop_24 rfl rfl ?_
      refine ex_acmp_eq (ry := some gn) d_Ss_drop_27 (fun hg => J76 F2 L2 m2 hT2 hs hl hfl (hstay (fun e he ho => by rw [hg]; intro w; exact hT2.ngn he (Option.some.inj w).symm))) (fun hg => ?_)
      have hyg : y ≠ gn := fun e => hg (by rw [hy, e])
      obtain ⟨e, he, rfl⟩ := hT2.mem hlt hy hyg
      refine ex_al d_Ss_drop_30 rfl ?_
      refine ex_get1 0 fl_Ss_11 d_Ss_drop_31 rfl rfl ?_
      refine ex_il d_Ss_drop_34 rfl ?_
      refine ex_ald51 1 d_Ss_drop_35 rfl (ix_e hlt) ?_
      refine ex_eqT [.ref e.1] (by rw [hy]; rfl) ?_
      refine ex_get 3 fl_Ss_39 d_Ss_drop_36 rfl (hPS e (hs e he)) rfl ?_
      refine ex_al d_Ss_drop_39 rfl ?_
      refine ex_acmp_eq (ry := some ma) d_Ss_drop_40 (fun ho => ?_) (fun ho => ?_)
      · obtain ⟨hd1, hd2⟩ := hT2.del he hlt hy
        refine ex_al d_Ss_drop_46 rfl ?_
        refine ex_get1 0 fl_Ss_11 d_Ss_drop_47 rfl rfl ?_
        refine ex_il d_Ss_drop_50 rfl ?_
        refine ex_al d_Ss_drop_51 rfl ?_
        refine ex_get1 0 fl_Ss_20 d_Ss_drop_52 rfl rfl ?_
        refine ex_ast5 1 2 d_Ss_drop_55 rfl (ix_e hlt) rfl List.mem_cons_self rfl (Or.inl rfl) ?_
        refine ex_al d_Ss_drop_56 rfl ?_
        refine ex_dup d_Ss_drop_57 rfl ?_
        refine ex_get1 0 fl_Ss_36 d_Ss_drop_58 rfl rfl ?_
        refine ex_k d_Ss_drop_61 ?_
        refine ex_isub d_Ss_drop_62 ?_
        refine ex_put1 0 wl_Ss_36 d_Ss_drop_63 rfl rfl rfl (Nat.le_of_ble_eq_true rfl) ?_
        refine ex_al d_Ss_drop_66 rfl ?_
        refine ex_dup d_Ss_drop_67 rfl ?_
        refine ex_get1 0 fl_Ss_33 d_Ss_drop_68 rfl rfl ?_
        refine ex_k d_Ss_drop_71 ?_
        refine ex_iadd d_Ss_drop_72 ?_
        refine ex_put1 0 wl_Ss_33 d_Ss_drop_73 rfl rfl rfl (Nat.le_of_ble_eq_true rfl) ?_
        refine ex_eqS [SO so pl gn (nI (L2.filter (fun x => decide (x.1 ≠ e.1))).length) (m2 + 1), SPl G pl (va_up F2 k (some gn)), SG gn, PS] (by rw [show nI (L2.filter (fun x => decide (x.1 ≠ e.1))).length = nI L2.length - 1 from by rw [← hd2, nI_pred]]; rfl) ?_
        refine J76 _ _ _ hd1 (fun e' he' => hs e' (List.mem_filter.mp he').1) (by omega) (by rw [flt_del (fun e' he' z => hT2.inj he' he z) ho]; exact hfl) (fun e' he' ho' j hj => ?_)
        have he2 := (List.mem_filter.mp he').1
        by_cases w : j = k
        · rw [w, va_up_self]; intro w2; exact hT2.ngn he2 (Option.some.inj w2).symm
        · rw [va_up_ne _ _ w]; exact hno e' he2 ho' j (by omega)
      · refine ex_goto d_Ss_drop_43 ?_
        exact J76 F2 L2 m2 hT2 hs hl hfl (hstay (fun e' he' ho' w => ho (by rw [hT2.inj he he' (Option.some.inj (hy.symm.trans w))]; exact ho')))
  refine ex_k d_Ss_drop_0 ?_
  refine ex_is d_Ss_drop_1 (Nat.le_of_ble_eq_true rfl) ?_
  exact LL 0 (Nat.zero_le _) F L marks hT (fun e he => he) (Nat.le_refl _) rfl (fun e he ho j hj => absurd hj (Nat.not_lt_zero _))
set_option maxRecDepth 100000 in
theorem c_Ss_init (l : Launch) (G : eg_G) (h : Nat) : Ct l G y_Ss_init 3 2 68 [.ref h] [[(h, .inr (8, [.null, .null, .int 0, .int 0]))]] (fun o S2 => ∃ pl gn, o = .inl none ∧ S2 = [SO h pl gn (nI 0) 0, SPl G pl (fun _ => none), SG gn]) := by
  refine Ct.of cd_Ss_init (eg_catb rfl) (Nat.le_of_ble_eq_true rfl) ?_
  intro Γ hG
  have hR := hG.rm
  show Ex G Γ mu_Ss_init 0 [some (.ref h)] [] [[(h, .inr (8, [.null, .null, .int 0, .int 0]))]] 0 0
  refine ex_al d_Ss_init_0 rfl ?_
  refine ex_oinit hR d_Ss_init_1 ol_Ss_3 oi_inst oi_code (Nat.le_of_ble_eq_true rfl) ?_
  refine ex_al d_Ss_init_4 rfl ?_
  refine ex_k d_Ss_init_5 ?_
  refine ex_newq (N := 64) (t := 5) hR d_Ss_init_7 kl_Ss_9 ao_5 rfl (by decide) (by decide) (by decide) (by decide) (by decide) (fun pl => ?_)
  refine ex_put1 0 wl_Ss_11 d_Ss_init_10 rfl rfl rfl (Nat.le_of_ble_eq_true rfl) ?_
  refine ex_al d_Ss_init_13 rfl ?_
  refine ex_new hR nw_Ss_9 d_Ss_init_14 (by decide) (by decide) (fun gn => ?_)
  refine ex_dup d_Ss_init_17 rfl ?_
  refine ex_k d_Ss_init_18 ?_
  refine ex_k d_Ss_init_19 ?_
  refine ex_k d_Ss_init_20 ?_
  refine ex_null d_Ss_init_21 ?_
  refine ex_eqS [[(h, .inr (8, [.ref pl, .null, .int 0, .int 0]))], SPl G pl (fun _ => none), SG gn] rfl ?_
  refine ex_cV [2] hR (c_Sy_init l G gn 0 0 0 none) (eg_invI d_Ss_init_22 cd_Sy_init rfl rfl tw_216 cx_Ss_17 rfl rfl) cd_Sy_init rfl rfl (Nat.le_of_ble_eq_true rfl) (by decide) (by decide) (by decide) (by decide) rfl ?_
  refine ex_put1 0 wl_Ss_20 d_Ss_init_25 rfl rfl rfl (Nat.le_of_ble_eq_true rfl) ?_
  exact ex_vret [SO h pl gn (nI 0) 0, SPl G pl (fun _ => none), SG gn] hG d_Ss_init_28 rfl (by decide) (by decide) (eg_sub.of rfl) ⟨pl, gn, rfl, rfl⟩
