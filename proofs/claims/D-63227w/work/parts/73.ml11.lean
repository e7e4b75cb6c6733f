/-! THE LOADER, 11: imports, exports, a run -/
def ow (A : Nat → Nat) (v : Int32) : Option Nat := if v < 0 then none else some (A v.toNatClampNeg)
def sEn (g : Nat → Nat → Int32) (sa A : Nat → Nat) (s : Nat) : sE := (sa s, g 4 s, g 5 s, g 6 s, ow A (g 7 s))
def SL (g : Nat → Nat → Int32) (sa A : Nat → Nat) (n : Nat) : List sE := (List.range n).map (sEn g sa A)
theorem sfind_SL (g : Nat → Nat → Int32) (sa A : Nat → Nat) (n : Nat) (v : Int32) : sfind (SL g sa A n) v = (tsym g n v).map (sEn g sa A) := by
  unfold sfind SL tsym tfind
  rw [List.find?_map]
  rfl
theorem SL_len (g : Nat → Nat → Int32) (sa A : Nat → Nat) (n : Nat) : (SL g sa A n).length = n := by
  unfold SL
  rw [List.length_map, List.length_range]
theorem SL_in {g : Nat → Nat → Int32} {sa A : Nat → Nat} {n s : Nat} (h : s < n) : sEn g sa A s ∈ SL g sa A n := List.mem_map.mpr ⟨s, List.mem_range.mpr h, rfl⟩
set_option maxRecDepth 100000 in
set_option maxHeartbeats 1000000 in
theorem c_ML_areImports (l : Launch) (G : eg_G) (x : Nat) (r : Nat → Nat) (f : Nat → Int32) (pl gn n : Nat) (marks : Int32) (F : Nat → Option Nat) (g : Nat → Nat → Int32) (sa A : Nat → Nat) (PP : va_W) (hT : TB F gn (SL g sa A n)) (hPS : ∀ e ∈ SL g sa A n, syC e ∈ PP) (hN : ((SL g sa A n).map (fun e => e.2.1)).Nodup) (ro tp t p ia : Nat) (ini exi gua : Int32) (la lb lc : Nat) (T : Nat → Int32) (Q : va_W) (Lf M E : Nat) (hM : M ≤ 8) (hQ : FLs G Q la M 12 (imV T Lf)) : Ct l G y_ML_areImports 4 0 0 [.ref x, .ref ro] [LO x r f, SO (r 1) pl gn (nI n) marks, SPl G pl F, SG gn, PP, RO ro tp t p (.ref ia) ini exi gua la lb lc, Q] (rF (some (.int (bI (imW g n T Lf M).isNone))) [LO x r (wrF f (imW g n T Lf M)), SO (r 1) pl gn (nI n) marks, SPl G pl F, SG gn, PP, RO ro tp t p (.ref ia) ini exi gua la lb lc, Q]) := by
  refine Ct.of cd_ML_areImports (eg_catb rfl) (Nat.le_of_ble_eq_true rfl) ?_
  intro Γ hG
  have hR := hG.rm
  show Ex G Γ mu_ML_areImports 0 [some (.ref x), some (.ref ro), none, none] [] [LO x r f, SO (r 1) pl gn (nI n) marks, SPl G pl F, SG gn, PP, RO ro tp t p (.ref ia) ini exi gua la lb lc, Q] 0 0
  obtain ⟨b, cap, y, ae, ho, hq, hme⟩ := hQ
  have LL : ∀ j, j ≤ M → (∀ i, i < j → decide (¬ iwK g n T Lf i = 0) = false) → Ex G Γ mu_ML_areImports 2 [some (.ref x), some (.ref ro), some (.int (nI j)), none] [] [LO x r f, SO (r 1) pl gn (nI n) marks, SPl G pl F, SG gn, PP, RO ro tp t p (.ref ia) ini exi gua la lb lc, Q] 0 0 := by
    refine eg_down M (fun j hj ih hno => ?_)
    refine ex_il d_ML_areImports_2 rfl ?_
    refine ex_al d_ML_areImports_3 rfl ?_
    refine ex_get1 5 fl_ML_125 d_ML_areImports_4 rfl rfl ?_
    refine ex_cF [6] hR (c_AL_size l G Q la b M y ho) (eg_invV 6 d_ML_areImports_7 cd_AL_size cx_ML_114 rfl rfl ho rfl rfl) cd_AL_size rfl rfl (Nat.le_of_ble_eq_true rfl) (by decide) (by decide) (by decide) (by decide) rfl ?_
    refine ex_eqS [LO x r f, SO (r 1) pl gn (nI n) marks, SPl G pl F, SG gn, PP, RO ro tp t p (.ref ia) ini exi gua la lb lc, Q] rfl ?_
    refine ex_icmp_ge d_ML_areImports_10 (fun z => ?_) (fun z => ?_)
    · have z := le_n (a := M) z
      obtain rfl : M = j := by omega
      have hres : imW g n T Lf M = none := by rw [imW, tfind_none hno]; rfl
      refine ex_k d_ML_areImports_96 ?_
      exact ex_iret [LO x r f, SO (r 1) pl gn (nI n) marks, SPl G pl F, SG gn, PP, RO ro tp t p (.ref ia) ini exi gua la lb lc, Q] hG d_ML_areImports_97 rfl rfl (by decide) (by decide) (eg_sub.of rfl) ⟨by rw [hres]; rfl, by rw [hres]; rfl⟩
    have hlt := lt_n (a := M) z
    have hm := hme j hlt
    refine ex_al d_ML_areImports_13 rfl ?_
    refine ex_get1 0 fl_ML_19 d_ML_areImports_14 rfl rfl ?_
    refine ex_al d_ML_areImports_17 rfl ?_
    refine ex_get1 5 fl_ML_125 d_ML_areImports_18 rfl rfl ?_
    refine ex_il d_ML_areImports_21 rfl ?_
    refine ex_cF [6] hR (c_AL_get l G Q la b M _ y (lsF ae M) ho (hq (by omega)).1 j hlt (hq (by omega)).2.1 (hq (by omega)).2.2) (eg_invV 6 d_ML_areImports_22 cd_AL_get cx_ML_118 rfl rfl ho rfl rfl) cd_AL_get rfl rfl (Nat.le_of_ble_eq_true rfl) (by decide) (by decide) (by decide) (by decide) rfl ?_
    refine ex_eqS [LO x r f, SO (r 1) pl gn (nI n) marks, SPl G pl F, SG gn, PP, RO ro tp t p (.ref ia) ini exi gua la lb lc, Q] rfl ?_
    refine ex_eqT [.ref (ae j), .ref (r 1)] (by rw [lsF_lt _ hlt]; rfl) ?_
    refine ex_cast 6 d_ML_areImports_25 kl_ML_130 (ci := 12) rfl rfl hm ?_
    refine ex_cF [6] hR (c_Im_name l G Q (ae j) (wdA T (imA Lf j)) (wdA T (imA Lf j + 4)) hm) (eg_invV 6 d_ML_areImports_28 cd_Im_name cx_ML_132 rfl rfl hm rfl rfl) cd_Im_name rfl rfl (Nat.le_of_ble_eq_true rfl) (by decide) (by decide) (by decide) (by decide) rfl ?_
    refine ex_eqS [LO x r f, SO (r 1) pl gn (nI n) marks, SPl G pl F, SG gn, PP, RO ro tp t p (.ref ia) ini exi gua la lb lc, Q] rfl ?_
    refine ex_cF [1, 2, 3, 4] hR (c_Ss_find l G (r 1) pl gn (nI n) marks F (SL g sa A n) PP hT hPS hN (wdA T (imA Lf j))) (eg_invV 1 d_ML_areImports_31 cd_Ss_find cx_ML_83 rfl rfl List.mem_cons_self rfl rfl) cd_Ss_find rfl rfl (Nat.le_of_ble_eq_true rfl) (by decide) (by decide) (by decide) (by decide) rfl ?_
    refine ex_eqS [LO x r f, SO (r 1) pl gn (nI n) marks, SPl G pl F, SG gn, PP, RO ro tp t p (.ref ia) ini exi gua la lb lc, Q] rfl ?_
    refine ex_asq d_ML_areImports_34 (Nat.le_of_ble_eq_true rfl) ?_
    rw [sfind_SL]
    cases hs : tsym g n (wdA T (imA Lf j)) with
    | none =>
      have hk : iwK g n T Lf j = 3 := by rw [iwK, hs]
      have hres : imW g n T Lf M = some (3, nI j) := by rw [imW, tfind_some hlt (by rw [hk]; rfl) hno]; show some (iwK g n T Lf j, nI j) = _; rw [hk]
      refine ex_al d_ML_areImports_35 rfl ?_
      refine ex_alq (r := none) d_ML_areImports_36 rfl ?_
      refine ex_ifnonnull (r := none) d_ML_areImports_37 (fun a z => absurd z (by simp)) (fun _ => ?_)
      refine ex_k d_ML_areImports_40 ?_
      refine ex_goto d_ML_areImports_41 ?_
      refine ex_k d_ML_areImports_45 ?_
      refine ex_il d_ML_areImports_46 rfl ?_
      refine ex_cF [0] hR (c_ML_fails l G x r f true 3 (nI j)) (eg_invV 0 d_ML_areImports_47 cd_ML_fails cx_ML_134 rfl rfl List.mem_cons_self rfl rfl) cd_ML_fails rfl rfl (Nat.le_of_ble_eq_true rfl) (by decide) (by decide) (by decide) (by decide) rfl ?_
      refine ex_eqS [LO x r (wrF f (some (3, nI j))), SO (r 1) pl gn (nI n) marks, SPl G pl F, SG gn, PP, RO ro tp t p (.ref ia) ini exi gua la lb lc, Q] rfl ?_
      refine ex_if_ne d_ML_areImports_50 (fun _ => ?_) (fun z => absurd z (by decide))
      refine ex_k d_ML_areImports_88 ?_
      exact ex_iret [LO x r (wrF f (some (3, nI j))), SO (r 1) pl gn (nI n) marks, SPl G pl F, SG gn, PP, RO ro tp t p (.ref ia) ini exi gua la lb lc, Q] hG d_ML_areImports_89 rfl rfl (by decide) (by decide) (eg_sub.of rfl) ⟨by rw [hres]; rfl, by rw [hres]⟩
    | some s =>
      have hsn := (tfind_lt hs).1
      have hsm := hPS _ (SL_in (g := g) (sa := sa) (A := A) hsn)
      refine ex_al d_ML_areImports_35 rfl ?_
      refine ex_alq (r := some (sa s)) d_ML_areImports_36 rfl ?_
      refine ex_ifnonnull (r := some (sa s)) d_ML_areImports_37 (fun a z => ?_) (fun z => absurd z (by simp))
      clear z
      refine ex_eqL [some (.ref x), some (.ref ro), some (.int (nI j)), some (.ref (sa s))] rfl ?_
      refine ex_k d_ML_areImports_44 ?_
      refine ex_k d_ML_areImports_45 ?_
      refine ex_il d_ML_areImports_46 rfl ?_
      refine ex_cF [0] hR (c_ML_fails l G x r f false 3 (nI j)) (eg_invV 0 d_ML_areImports_47 cd_ML_fails cx_ML_134 rfl rfl List.mem_cons_self rfl rfl) cd_ML_fails rfl rfl (Nat.le_of_ble_eq_true rfl) (by decide) (by decide) (by decide) (by decide) rfl ?_
      refine ex_eqS [LO x r f, SO (r 1) pl gn (nI n) marks, SPl G pl F, SG gn, PP, RO ro tp t p (.ref ia) ini exi gua la lb lc, Q] rfl ?_
      refine ex_if_ne d_ML_areImports_50 (fun z => absurd rfl z) (fun _ => ?_)
      refine ex_al d_ML_areImports_53 rfl ?_
      refine ex_al d_ML_areImports_54 rfl ?_
      refine ex_get 4 fl_ML_138 d_ML_areImports_55 rfl hsm rfl ?_
      refine ex_al d_ML_areImports_58 rfl ?_
      refine ex_get1 5 fl_ML_125 d_ML_areImports_59 rfl rfl ?_
      refine ex_il d_ML_areImports_62 rfl ?_
      refine ex_cF [6] hR (c_AL_get l G Q la b M _ y (lsF ae M) ho (hq (by omega)).1 j hlt (hq (by omega)).2.1 (hq (by omega)).2.2) (eg_invV 6 d_ML_areImports_63 cd_AL_get cx_ML_118 rfl rfl ho rfl rfl) cd_AL_get rfl rfl (Nat.le_of_ble_eq_true rfl) (by decide) (by decide) (by decide) (by decide) rfl ?_
      refine ex_eqS [LO x r f, SO (r 1) pl gn (nI n) marks, SPl G pl F, SG gn, PP, RO ro tp t p (.ref ia) ini exi gua la lb lc, Q] rfl ?_
      refine ex_eqT [.ref (ae j), .int (g 5 s), .ref x] (by rw [lsF_lt _ hlt]; rfl) ?_
      refine ex_cast 6 d_ML_areImports_66 kl_ML_130 (ci := 12) rfl rfl hm ?_
      refine ex_cF [6] hR (c_Im_check l G Q (ae j) (wdA T (imA Lf j)) (wdA T (imA Lf j + 4)) hm) (eg_invV 6 d_ML_areImports_69 cd_Im_check cx_ML_141 rfl rfl hm rfl rfl) cd_Im_check rfl rfl (Nat.le_of_ble_eq_true rfl) (by decide) (by decide) (by decide) (by decide) rfl ?_
      refine ex_eqS [LO x r f, SO (r 1) pl gn (nI n) marks, SPl G pl F, SG gn, PP, RO ro tp t p (.ref ia) ini exi gua la lb lc, Q] rfl ?_
      refine ex_icmp_eq d_ML_areImports_72 (fun z => ?_) (fun z => ?_)
      · have hk : iwK g n T Lf j = 0 := by rw [iwK, hs]; show (if g 5 s = _ then _ else _) = _; rw [if_pos z]
        refine ex_k d_ML_areImports_79 ?_
        refine ex_k d_ML_areImports_80 ?_
        refine ex_il d_ML_areImports_81 rfl ?_
        refine ex_cF [0] hR (c_ML_fails l G x r f false 4 (nI j)) (eg_invV 0 d_ML_areImports_82 cd_ML_fails cx_ML_134 rfl rfl List.mem_cons_self rfl rfl) cd_ML_fails rfl rfl (Nat.le_of_ble_eq_true rfl) (by decide) (by decide) (by decide) (by decide) rfl ?_
        refine ex_eqS [LO x r f, SO (r 1) pl gn (nI n) marks, SPl G pl F, SG gn, PP, RO ro tp t p (.ref ia) ini exi gua la lb lc, Q] rfl ?_
        refine ex_if_eq d_ML_areImports_85 (fun _ => ?_) (fun z => absurd rfl z)
        refine ex_inc d_ML_areImports_90 rfl ?_
        refine ex_goto d_ML_areImports_93 ?_
        refine ex_forget [true, true, true, false] ?_
        exact ih hlt (fun i hi => by rcases Nat.lt_or_ge i j with w | w; exact hno i w; rw [show i = j by omega, hk]; rfl)
      · have hk : iwK g n T Lf j = 4 := by rw [iwK, hs]; show (if g 5 s = _ then _ else _) = _; rw [if_neg z]
        have hres : imW g n T Lf M = some (4, nI j) := by rw [imW, tfind_some hlt (by rw [hk]; rfl) hno]; show some (iwK g n T Lf j, nI j) = _; rw [hk]
        refine ex_k d_ML_areImports_75 ?_
        refine ex_goto d_ML_areImports_76 ?_
        refine ex_k d_ML_areImports_80 ?_
        refine ex_il d_ML_areImports_81 rfl ?_
        refine ex_cF [0] hR (c_ML_fails l G x r f true 4 (nI j)) (eg_invV 0 d_ML_areImports_82 cd_ML_fails cx_ML_134 rfl rfl List.mem_cons_self rfl rfl) cd_ML_fails rfl rfl (Nat.le_of_ble_eq_true rfl) (by decide) (by decide) (by decide) (by decide) rfl ?_
        refine ex_eqS [LO x r (wrF f (some (4, nI j))), SO (r 1) pl gn (nI n) marks, SPl G pl F, SG gn, PP, RO ro tp t p (.ref ia) ini exi gua la lb lc, Q] rfl ?_
        refine ex_if_eq d_ML_areImports_85 (fun z => absurd z (by decide)) (fun _ => ?_)
        refine ex_k d_ML_areImports_88 ?_
        exact ex_iret [LO x r (wrF f (some (4, nI j))), SO (r 1) pl gn (nI n) marks, SPl G pl F, SG gn, PP, RO ro tp t p (.ref ia) ini exi gua la lb lc, Q] hG d_ML_areImports_89 rfl rfl (by decide) (by decide) (eg_sub.of rfl) ⟨by rw [hres]; rfl, by rw [hres]⟩
  refine ex_k d_ML_areImports_0 ?_
  refine ex_is d_ML_areImports_1 (Nat.le_of_ble_eq_true rfl) ?_
  exact LL 0 (Nat.zero_le _) (fun i hi => absurd hi (Nat.not_lt_zero _))
set_option maxRecDepth 100000 in
set_option maxHeartbeats 1000000 in
theorem c_ML_areExports (l : Launch) (G : eg_G) (x : Nat) (r : Nat → Nat) (f : Nat → Int32) (pl gn n : Nat) (marks : Int32) (F : Nat → Option Nat) (g : Nat → Nat → Int32) (sa A : Nat → Nat) (PP : va_W) (hT : TB F gn (SL g sa A n)) (hPS : ∀ e ∈ SL g sa A n, syC e ∈ PP) (hN : ((SL g sa A n).map (fun e => e.2.1)).Nodup) (ro tp t p ia : Nat) (ini exi gua : Int32) (la lb lc : Nat) (T : Nat → Int32) (Q : va_W) (Lf M E : Nat) (hE : E ≤ 8) (hn2 : n ≤ 40) (hQ : FLs G Q lb E 13 (exW T Lf M)) : Ct l G y_ML_areExports 4 0 0 [.ref x, .ref ro] [LO x r f, SO (r 1) pl gn (nI n) marks, SPl G pl F, SG gn, PP, RO ro tp t p (.ref ia) ini exi gua la lb lc, Q] (rF (some (.int (bI (exV g n T Lf M E).isNone))) [LO x r (wrF f (exV g n T Lf M E)), SO (r 1) pl gn (nI n) marks, SPl G pl F, SG gn, PP, RO ro tp t p (.ref ia) ini exi gua la lb lc, Q]) := by
  refine Ct.of cd_ML_areExports (eg_catb rfl) (Nat.le_of_ble_eq_true rfl) ?_
  intro Γ hG
  have hR := hG.rm
  show Ex G Γ mu_ML_areExports 0 [some (.ref x), some (.ref ro), none] [] [LO x r f, SO (r 1) pl gn (nI n) marks, SPl G pl F, SG gn, PP, RO ro tp t p (.ref ia) ini exi gua la lb lc, Q] 0 0
  obtain ⟨b, cap, y, ae, ho, hq, hme⟩ := hQ
  have LL : ∀ j, j ≤ E → (∀ i, i < j → (tsym g n (wdA T (exA Lf M i))).isSome = false) → Ex G Γ mu_ML_areExports 2 [some (.ref x), some (.ref ro), some (.int (nI j))] [] [LO x r f, SO (r 1) pl gn (nI n) marks, SPl G pl F, SG gn, PP, RO ro tp t p (.ref ia) ini exi gua la lb lc, Q] 0 0 := by
    refine eg_down E (fun j hj ih hno => ?_)
    refine ex_il d_ML_areExports_2 rfl ?_
    refine ex_al d_ML_areExports_3 rfl ?_
    refine ex_get1 5 fl_ML_143 d_ML_areExports_4 rfl rfl ?_
    refine ex_cF [6] hR (c_AL_size l G Q lb b E y ho) (eg_invV 6 d_ML_areExports_7 cd_AL_size cx_ML_114 rfl rfl ho rfl rfl) cd_AL_size rfl rfl (Nat.le_of_ble_eq_true rfl) (by decide) (by decide) (by decide) (by decide) rfl ?_
    refine ex_eqS [LO x r f, SO (r 1) pl gn (nI n) marks, SPl G pl F, SG gn, PP, RO ro tp t p (.ref ia) ini exi gua la lb lc, Q] rfl ?_
    refine ex_icmp_ge d_ML_areExports_10 (fun z => ?_) (fun z => ?_)
    · have z := le_n (a := E) z
      obtain rfl : E = j := by omega
      refine ex_al d_ML_areExports_59 rfl ?_
      refine ex_al d_ML_areExports_60 rfl ?_
      refine ex_get1 0 fl_ML_19 d_ML_areExports_61 rfl rfl ?_
      refine ex_get1 1 fl_ML_87 d_ML_areExports_64 rfl rfl ?_
      refine ex_al d_ML_areExports_67 rfl ?_
      refine ex_get1 5 fl_ML_143 d_ML_areExports_68 rfl rfl ?_
      refine ex_cF [6] hR (c_AL_size l G Q lb b E y ho) (eg_invV 6 d_ML_areExports_71 cd_AL_size cx_ML_114 rfl rfl ho rfl rfl) cd_AL_size rfl rfl (Nat.le_of_ble_eq_true rfl) (by decide) (by decide) (by decide) (by decide) rfl ?_
      refine ex_eqS [LO x r f, SO (r 1) pl gn (nI n) marks, SPl G pl F, SG gn, PP, RO ro tp t p (.ref ia) ini exi gua la lb lc, Q] rfl ?_
      refine ex_iadd d_ML_areExports_74 ?_
      refine ex_k d_ML_areExports_75 ?_
      refine ex_eqT [.int (nI 40), .int (nI (n + E)), .ref x] (by rw [← nI_add]; rfl) ?_
      refine ex_icmp_le d_ML_areExports_77 (fun z2 => ?_) (fun z2 => ?_)
      · have z2 : n + E ≤ 40 := (nI_leI (by omega) (by decide)).mp z2
        have hres : exV g n T Lf M E = none := by rw [exV, tfind_none hno]; show (if 40 < n + E then _ else _) = _; rw [if_neg (by omega)]
        refine ex_k d_ML_areExports_84 ?_
        refine ex_k d_ML_areExports_85 ?_
        refine ex_k d_ML_areExports_86 ?_
        refine ex_al d_ML_areExports_88 rfl ?_
        refine ex_get1 0 fl_ML_19 d_ML_areExports_89 rfl rfl ?_
        refine ex_get1 1 fl_ML_87 d_ML_areExports_92 rfl rfl ?_
        refine ex_isub d_ML_areExports_95 ?_
        refine ex_cF [0] hR (c_ML_fails l G x r f false 5 (40 - nI n)) (eg_invV 0 d_ML_areExports_96 cd_ML_fails cx_ML_134 rfl rfl List.mem_cons_self rfl rfl) cd_ML_fails rfl rfl (Nat.le_of_ble_eq_true rfl) (by decide) (by decide) (by decide) (by decide) rfl ?_
        refine ex_eqS [LO x r f, SO (r 1) pl gn (nI n) marks, SPl G pl F, SG gn, PP, RO ro tp t p (.ref ia) ini exi gua la lb lc, Q] rfl ?_
        refine ex_if_ne d_ML_areExports_99 (fun z => absurd rfl z) (fun _ => ?_)
        refine ex_k d_ML_areExports_102 ?_
        refine ex_goto d_ML_areExports_103 ?_
        exact ex_iret [LO x r f, SO (r 1) pl gn (nI n) marks, SPl G pl F, SG gn, PP, RO ro tp t p (.ref ia) ini exi gua la lb lc, Q] hG d_ML_areExports_107 rfl rfl (by decide) (by decide) (eg_sub.of rfl) ⟨by rw [hres]; rfl, by rw [hres]; rfl⟩
      · have z2 : ¬ n + E ≤ 40 := fun w => z2 ((nI_leI (by omega) (by decide)).mpr w)
        have hres : exV g n T Lf M E = some (5, nI (40 - n)) := by rw [exV, tfind_none hno]; show (if 40 < n + E then _ else _) = _; rw [if_pos (by omega)]
        refine ex_k d_ML_areExports_80 ?_
        refine ex_goto d_ML_areExports_81 ?_
        refine ex_k d_ML_areExports_85 ?_
        refine ex_k d_ML_areExports_86 ?_
        refine ex_al d_ML_areExports_88 rfl ?_
        refine ex_get1 0 fl_ML_19 d_ML_areExports_89 rfl rfl ?_
        refine ex_get1 1 fl_ML_87 d_ML_areExports_92 rfl rfl ?_
        refine ex_isub d_ML_areExports_95 ?_
        refine ex_eqT [.int (nI (40 - n)), .int 5, .int (bI true), .ref x] (by rw [← pk_sub (by omega)]; rfl) ?_
        refine ex_cF [0] hR (c_ML_fails l G x r f true 5 (nI (40 - n))) (eg_invV 0 d_ML_areExports_96 cd_ML_fails cx_ML_134 rfl rfl List.mem_cons_self rfl rfl) cd_ML_fails rfl rfl (Nat.le_of_ble_eq_true rfl) (by decide) (by decide) (by decide) (by decide) rfl ?_
        refine ex_eqS [LO x r (wrF f (some (5, nI (40 - n)))), SO (r 1) pl gn (nI n) marks, SPl G pl F, SG gn, PP, RO ro tp t p (.ref ia) ini exi gua la lb lc, Q] rfl ?_
        refine ex_if_ne d_ML_areExports_99 (fun _ => ?_) (fun z => absurd z (by decide))
        refine ex_k d_ML_areExports_106 ?_
        exact ex_iret [LO x r (wrF f (some (5, nI (40 - n)))), SO (r 1) pl gn (nI n) marks, SPl G pl F, SG gn, PP, RO ro tp t p (.ref ia) ini exi gua la lb lc, Q] hG d_ML_areExports_107 rfl rfl (by decide) (by decide) (eg_sub.of rfl) ⟨by rw [hres]; rfl, by rw [hres]⟩
    have hlt := lt_n (a := E) z
    have hm := hme j hlt
    refine ex_al d_ML_areExports_13 rfl ?_
    refine ex_al d_ML_areExports_14 rfl ?_
    refine ex_get1 0 fl_ML_19 d_ML_areExports_15 rfl rfl ?_
    refine ex_al d_ML_areExports_18 rfl ?_
    refine ex_get1 5 fl_ML_143 d_ML_areExports_19 rfl rfl ?_
    refine ex_il d_ML_areExports_22 rfl ?_
    refine ex_cF [6] hR (c_AL_get l G Q lb b E _ y (lsF ae E) ho (hq (by omega)).1 j hlt (hq (by omega)).2.1 (hq (by omega)).2.2) (eg_invV 6 d_ML_areExports_23 cd_AL_get cx_ML_118 rfl rfl ho rfl rfl) cd_AL_get rfl rfl (Nat.le_of_ble_eq_true rfl) (by decide) (by decide) (by decide) (by decide) rfl ?_
    refine ex_eqS [LO x r f, SO (r 1) pl gn (nI n) marks, SPl G pl F, SG gn, PP, RO ro tp t p (.ref ia) ini exi gua la lb lc, Q] rfl ?_
    refine ex_eqT [.ref (ae j), .ref (r 1), .ref x] (by rw [lsF_lt _ hlt]; rfl) ?_
    refine ex_cast 6 d_ML_areExports_26 kl_ML_146 (ci := 13) rfl rfl hm ?_
    refine ex_cF [6] hR (c_Ep_name l G Q (ae j) (wdA T (exA Lf M j)) (wdA T (exA Lf M j + 4)) (wdA T (exA Lf M j + 8)) hm) (eg_invV 6 d_ML_areExports_29 cd_Ep_name cx_ML_148 rfl rfl hm rfl rfl) cd_Ep_name rfl rfl (Nat.le_of_ble_eq_true rfl) (by decide) (by decide) (by decide) (by decide) rfl ?_
    refine ex_eqS [LO x r f, SO (r 1) pl gn (nI n) marks, SPl G pl F, SG gn, PP, RO ro tp t p (.ref ia) ini exi gua la lb lc, Q] rfl ?_
    refine ex_cF [1, 2, 3, 4] hR (c_Ss_find l G (r 1) pl gn (nI n) marks F (SL g sa A n) PP hT hPS hN (wdA T (exA Lf M j))) (eg_invV 1 d_ML_areExports_32 cd_Ss_find cx_ML_83 rfl rfl List.mem_cons_self rfl rfl) cd_Ss_find rfl rfl (Nat.le_of_ble_eq_true rfl) (by decide) (by decide) (by decide) (by decide) rfl ?_
    refine ex_eqS [LO x r f, SO (r 1) pl gn (nI n) marks, SPl G pl F, SG gn, PP, RO ro tp t p (.ref ia) ini exi gua la lb lc, Q] rfl ?_
    rw [sfind_SL]
    cases hs : tsym g n (wdA T (exA Lf M j)) with
    | none =>
      refine ex_ifnull (r := none) d_ML_areExports_35 (fun _ => ?_) (fun a z => absurd z (by simp))
      refine ex_k d_ML_areExports_42 ?_
      refine ex_k d_ML_areExports_43 ?_
      refine ex_il d_ML_areExports_44 rfl ?_
      refine ex_cF [0] hR (c_ML_fails l G x r f false 5 (nI j)) (eg_invV 0 d_ML_areExports_45 cd_ML_fails cx_ML_134 rfl rfl List.mem_cons_self rfl rfl) cd_ML_fails rfl rfl (Nat.le_of_ble_eq_true rfl) (by decide) (by decide) (by decide) (by decide) rfl ?_
      refine ex_eqS [LO x r f, SO (r 1) pl gn (nI n) marks, SPl G pl F, SG gn, PP, RO ro tp t p (.ref ia) ini exi gua la lb lc, Q] rfl ?_
      refine ex_if_eq d_ML_areExports_48 (fun _ => ?_) (fun z => absurd rfl z)
      refine ex_inc d_ML_areExports_53 rfl ?_
      refine ex_goto d_ML_areExports_56 ?_
      exact ih hlt (fun i hi => by rcases Nat.lt_or_ge i j with w | w; exact hno i w; rw [show i = j by omega, hs]; rfl)
    | some s =>
      have hres : exV g n T Lf M E = some (5, nI j) := by rw [exV, tfind_some hlt (by rw [hs]; rfl) hno]
      refine ex_ifnull (r := some (sa s)) d_ML_areExports_35 (fun z => absurd z (by simp)) (fun a z => ?_)
      clear z
      refine ex_k d_ML_areExports_38 ?_
      refine ex_goto d_ML_areExports_39 ?_
      refine ex_k d_ML_areExports_43 ?_
      refine ex_il d_ML_areExports_44 rfl ?_
      refine ex_cF [0] hR (c_ML_fails l G x r f true 5 (nI j)) (eg_invV 0 d_ML_areExports_45 cd_ML_fails cx_ML_134 rfl rfl List.mem_cons_self rfl rfl) cd_ML_fails rfl rfl (Nat.le_of_ble_eq_true rfl) (by decide) (by decide) (by decide) (by decide) rfl ?_
      refine ex_eqS [LO x r (wrF f (some (5, nI j))), SO (r 1) pl gn (nI n) marks, SPl G pl F, SG gn, PP, RO ro tp t p (.ref ia) ini exi gua la lb lc, Q] rfl ?_
      refine ex_if_eq d_ML_areExports_48 (fun z => absurd z (by decide)) (fun _ => ?_)
      refine ex_k d_ML_areExports_51 ?_
      exact ex_iret [LO x r (wrF f (some (5, nI j))), SO (r 1) pl gn (nI n) marks, SPl G pl F, SG gn, PP, RO ro tp t p (.ref ia) ini exi gua la lb lc, Q] hG d_ML_areExports_52 rfl rfl (by decide) (by decide) (eg_sub.of rfl) ⟨by rw [hres]; rfl, by rw [hres]⟩
  refine ex_k d_ML_areExports_0 ?_
  refine ex_is d_ML_areExports_1 (Nat.le_of_ble_eq_true rfl) ?_
  exact LL 0 (Nat.zero_le _) (fun i hi => absurd hi (Nat.not_lt_zero _))
def rnF (f : Nat → Int32) (m : mR) : Nat → Int32 := va_up (if m.1 = 0 then va_up (va_up (va_up f 19 m.2.1) 20 (nI m.2.2.1)) 21 (m.2.2.2.2.1 10) else va_up (va_up f 19 m.2.1) 20 (nI m.2.2.1)) 17 m.1
set_option maxRecDepth 100000 in
theorem c_ML_run (l : Launch) (G : eg_G) (x : Nat) (r : Nat → Nat) (f : Nat → Int32) (a : Nat → Nat) (M : Nat → Int32) (P : Int32 → Bool) (R : Nat → Int32) (pc tr md : Int32) (hr0 : r 0 = a 0) (s u v : Int32) (n : Nat) (hn : n ≤ 2000) (hM : ∀ i, M i &&& 255 = M i) (m : mR) (hm : mrun P n 0 M (rgS R u v) s = m) : Ct l G y_ML_run 13 6000 36000 [.ref x, .int s, .int u, .int v, .int (nI n)] [LO x r f, MA G a M P R pc tr md] (rF (some (.int m.1)) [LO x r (rnF f m), MA G a m.2.2.2.1 P m.2.2.2.2.1 m.2.2.2.2.2 m.2.1 (nI m.2.2.1)]) := by
  refine Ct.of cd_ML_run (eg_catb rfl) (Nat.le_of_ble_eq_true rfl) ?_
  intro Γ hG
  have hR := hG.rm
  show Ex G Γ mu_ML_run 0 [some (.ref x), some (.int s), some (.int u), some (.int v), some (.int (nI n)), none] [] [LO x r f, MA G a M P R pc tr md] 0 0
  refine ex_al d_ML_run_0 rfl ?_
  refine lg 0 fl_ML_10 d_ML_run_1 rfl rfl ?_
  rw [hr0]
  refine ex_il d_ML_run_4 rfl ?_
  refine ex_il d_ML_run_5 rfl ?_
  refine ex_il d_ML_run_6 rfl ?_
  refine ex_il d_ML_run_7 rfl ?_
  refine ex_cF [1] hR (c_Ma_run l G a M P R pc tr md s u v n hn hM) (eg_invV 1 d_ML_run_9 cd_Ma_run cx_ML_183 rfl rfl List.mem_cons_self rfl rfl) cd_Ma_run rfl rfl (Nat.le_of_ble_eq_true rfl) (by decide) (by decide) (by decide) (by decide) rfl ?_
  rw [hm]
  refine ex_eqS [LO x r f, MA G a m.2.2.2.1 P m.2.2.2.2.1 m.2.2.2.2.2 m.2.1 (nI m.2.2.1)] rfl ?_
  refine ex_is d_ML_run_12 (Nat.le_of_ble_eq_true rfl) ?_
  have J55 : ∀ F : Nat → Int32, rnF f m = va_up F 17 m.1 → Ex G Γ mu_ML_run 55 [some (.ref x), some (.int s), some (.int u), some (.int v), some (.int (nI n)), some (.int m.1)] [] [LO x r F, MA G a m.2.2.2.1 P m.2.2.2.2.1 m.2.2.2.2.2 m.2.1 (nI m.2.2.1)] 6000 36000 := by
    intro F hF
    refine ex_al d_ML_run_55 rfl ?_
    refine ex_il d_ML_run_56 rfl ?_
    refine lp_17 0 wl_ML_102 d_ML_run_58 rfl ?_
    refine ex_il d_ML_run_61 rfl ?_
    exact ex_iret [LO x r (rnF f m), MA G a m.2.2.2.1 P m.2.2.2.2.1 m.2.2.2.2.2 m.2.1 (nI m.2.2.1)] hG d_ML_run_63 rfl rfl (by decide) (by decide) (eg_sub.of (by rw [hF]; rfl)) ⟨rfl, rfl⟩
  refine ex_al d_ML_run_14 rfl ?_
  refine ex_al d_ML_run_15 rfl ?_
  refine lg 0 fl_ML_10 d_ML_run_16 rfl rfl ?_
  rw [hr0]
  refine mg 1 fl_ML_186 d_ML_run_19 rfl rfl ?_
  refine lp_19 0 wl_ML_105 d_ML_run_22 rfl ?_
  refine ex_al d_ML_run_25 rfl ?_
  refine ex_al d_ML_run_26 rfl ?_
  refine lg 0 fl_ML_10 d_ML_run_27 rfl rfl ?_
  rw [hr0]
  refine mg 1 fl_ML_187 d_ML_run_30 rfl rfl ?_
  refine lp_20 0 wl_ML_108 d_ML_run_33 rfl ?_
  refine ex_eqS [LO x r (va_up (va_up f 19 m.2.1) 20 (nI m.2.2.1)), MA G a m.2.2.2.1 P m.2.2.2.2.1 m.2.2.2.2.2 m.2.1 (nI m.2.2.1)] rfl ?_
  refine ex_il d_ML_run_36 rfl ?_
  refine ex_if_ne d_ML_run_38 (fun z => ?_) (fun z => ?_)
  · exact J55 _ (by rw [rnF, if_neg z])
  refine ex_al d_ML_run_41 rfl ?_
  refine ex_al d_ML_run_42 rfl ?_
  refine lg 0 fl_ML_10 d_ML_run_43 rfl rfl ?_
  rw [hr0]
  refine mg 1 fl_ML_188 d_ML_run_46 rfl rfl ?_
  refine ex_k d_ML_run_49 ?_
  refine ex_iald 1 d_ML_run_51 rfl (List.mem_of_getElem? (i := 3) rfl) (ix_e (j := 10) (by decide)) ?_
  refine lp_21 0 wl_ML_111 d_ML_run_52 rfl ?_
  refine ex_eqS [LO x r (va_up (va_up (va_up f 19 m.2.1) 20 (nI m.2.2.1)) 21 (m.2.2.2.2.1 10)), MA G a m.2.2.2.1 P m.2.2.2.2.1 m.2.2.2.2.2 m.2.1 (nI m.2.2.1)] rfl ?_
  exact J55 _ (by rw [rnF, if_pos z])
