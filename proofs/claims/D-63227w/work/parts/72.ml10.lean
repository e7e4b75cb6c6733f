/-! THE LOADER, 10: rows of a module, counts, symbols -/
def owF (F : Nat → Option Nat) (u : Nat) (ow : Option Nat) (j : Nat) : Nat → Option Nat := fun i => if u ≤ i ∧ i < u + j then ow else F i
theorem owF_s (F : Nat → Option Nat) (u : Nat) (ow : Option Nat) (j : Nat) : va_up (owF F u ow j) (u + j) ow = owF F u ow (j + 1) := funext fun i => by
  unfold owF
  by_cases h : i = u + j
  · rw [h, va_up_self, if_pos (by omega)]
  · rw [va_up_ne _ _ h]
    by_cases h2 : u ≤ i ∧ i < u + j
    · rw [if_pos h2, if_pos (by omega)]
    · rw [if_neg h2, if_neg (by omega)]
theorem owF_0 (F : Nat → Option Nat) (u : Nat) (ow : Option Nat) : owF F u ow 0 = F := funext fun i => if_neg (by omega)
set_option maxRecDepth 100000 in
theorem c_ML_own (l : Launch) (G : eg_G) (x : Nat) (r : Nat → Nat) (f : Nat → Int32) (PP : va_W) (F : Nat → Option Nat) (m u s : Nat) (vs : List Value) (hm : (m, .inr (15, vs)) ∈ PP) (hv1 : vs[1]? = some (.int (nI (512 + 16 * u)))) (hv2 : vs[2]? = some (.int (nI s))) (hu : u + (s + 15) / 16 ≤ 208) (ow : Option Nat) (how : ∀ o, ow = some o → ∃ vs, (o, .inr (15, vs)) ∈ PP) : Ct l G y_ML_own 1 0 0 [.ref x, .ref m, va_rf ow] [LO x r f, PP, RW G (r 3) F] (rF none [LO x r f, PP, RW G (r 3) (owF F u ow ((s + 15) / 16))]) := by
  refine Ct.of cd_ML_own (by intro x hx; simp only [List.mem_cons, List.not_mem_nil, or_false] at hx; rcases hx with rfl | rfl | rfl <;> first | rfl | (cases ow <;> rfl)) (Nat.le_of_ble_eq_true rfl) ?_
  intro Γ hG
  have hR := hG.rm
  show Ex G Γ mu_ML_own 0 [some (.ref x), some (.ref m), some (va_rf ow), none] [] [LO x r f, PP, RW G (r 3) F] 0 0
  have e1 : (nI (512 + 16 * u) - 512) / 16 = nI u := by
    show (nI (512 + 16 * u) - nI 512) / nI 16 = _
    rw [pk_sub (by omega), pk_div (by omega) (by decide) (by decide)]
    congr 1
    omega
  have e2 : (nI (512 + 16 * u) - 512 + nI s + 16 - 1) / 16 = nI (u + (s + 15) / 16) := by
    show (nI (512 + 16 * u) - nI 512 + nI s + nI 16 - nI 1) / nI 16 = _
    rw [pk_sub (by omega), nI_add, nI_add, pk_sub (by omega), pk_div (by omega) (by decide) (by decide)]
    congr 1
    omega
  have LL : ∀ j, j ≤ (s + 15) / 16 → Ex G Γ mu_ML_own 12 [some (.ref x), some (.ref m), some (va_rf ow), some (.int (nI (u + j)))] [] [LO x r f, PP, RW G (r 3) (owF F u ow j)] 0 0 := by
    refine eg_down ((s + 15) / 16) (fun j hj ih => ?_)
    refine ex_il d_ML_own_12 rfl ?_
    refine ex_al d_ML_own_13 rfl ?_
    refine ex_get 1 fl_ML_149 d_ML_own_14 rfl hm hv1 ?_
    refine ex_k d_ML_own_17 ?_
    refine ex_isub d_ML_own_20 ?_
    refine ex_al d_ML_own_21 rfl ?_
    refine ex_get 1 fl_ML_152 d_ML_own_22 rfl hm hv2 ?_
    refine ex_iadd d_ML_own_25 ?_
    refine ex_k d_ML_own_26 ?_
    refine ex_iadd d_ML_own_28 ?_
    refine ex_k d_ML_own_29 ?_
    refine ex_isub d_ML_own_30 ?_
    refine ex_k d_ML_own_31 ?_
    refine ex_idiv d_ML_own_33 (by decide) ?_
    refine ex_eqT [.int (nI (u + (s + 15) / 16)), .int (nI (u + j))] (by rw [← e2]) ?_
    refine ex_icmp_ge d_ML_own_34 (fun z => ?_) (fun z => ?_)
    · have z := le_n (a := u + (s + 15) / 16) z
      obtain rfl : j = (s + 15) / 16 := by omega
      exact ex_vret [LO x r f, PP, RW G (r 3) (owF F u ow ((s + 15) / 16))] hG d_ML_own_50 rfl (by decide) (by decide) (eg_sub.of rfl) ⟨rfl, rfl⟩
    have hlt := lt_n (a := u + (s + 15) / 16) z
    have J44 : Ex G Γ mu_ML_own 44 [some (.ref x), some (.ref m), some (va_rf ow), some (.int (nI (u + j)))] [] [LO x r f, PP, RW G (r 3) (va_up (owF F u ow j) (u + j) ow)] 0 0 := by
      rw [owF_s]
      refine ex_inc d_ML_own_44 rfl ?_
      refine ex_goto d_ML_own_47 ?_
      exact ih (by omega)
    refine ex_al d_ML_own_37 rfl ?_
    refine ex_get1 0 fl_ML_32 d_ML_own_38 rfl rfl ?_
    refine ex_il d_ML_own_41 rfl ?_
    refine ex_alq d_ML_own_42 rfl ?_
    cases ow with
    | none => exact ex_astN6 2 d_ML_own_43 rfl (ix_e (by omega)) J44
    | some o =>
      obtain ⟨vs2, hm2⟩ := how o rfl
      exact ex_ast6 2 1 d_ML_own_43 rfl (ix_e (by omega)) rfl hm2 rfl (Or.inl rfl) J44
  refine ex_al d_ML_own_0 rfl ?_
  refine ex_get 1 fl_ML_149 d_ML_own_1 rfl hm hv1 ?_
  refine ex_k d_ML_own_4 ?_
  refine ex_isub d_ML_own_7 ?_
  refine ex_k d_ML_own_8 ?_
  refine ex_idiv d_ML_own_10 (by decide) ?_
  refine ex_eqT [.int (nI (u + 0))] (by rw [Nat.add_zero, ← e1]) ?_
  refine ex_is d_ML_own_11 (Nat.le_of_ble_eq_true rfl) ?_
  refine ex_eqS [LO x r f, PP, RW G (r 3) (owF F u ow 0)] (by rw [owF_0]) ?_
  exact LL 0 (Nat.zero_le _)
def cnR (k n : Nat) (F : Nat → Option Nat) (t w : Int32) : Int32 := if w = 0 then nI k else if w = 1 then nI n else if w = 2 then nI (rcnt (fre F) 208) else if w = 3 then nI (rmx (fre F) 208) else if w = 4 then t else -1
set_option maxRecDepth 100000 in
theorem c_ML_count (l : Launch) (G : eg_G) (x : Nat) (r : Nat → Nat) (f : Nat → Int32) (b k pl gn n : Nat) (y marks : Int32) (F : Nat → Option Nat) (w : Int32) : Ct l G y_ML_count 2 0 0 [.ref x, .int w] [LO x r f, ALo (r 2) b k y, SO (r 1) pl gn (nI n) marks, RW G (r 3) F] (rF (some (.int (cnR k n F (f 15) w))) [LO x r f, ALo (r 2) b k y, SO (r 1) pl gn (nI n) marks, RW G (r 3) F]) := by
  refine Ct.of cd_ML_count (eg_catb rfl) (Nat.le_of_ble_eq_true rfl) ?_
  intro Γ hG
  have hR := hG.rm
  show Ex G Γ mu_ML_count 0 [some (.ref x), some (.int w), none, none, none, none] [] [LO x r f, ALo (r 2) b k y, SO (r 1) pl gn (nI n) marks, RW G (r 3) F] 0 0
  have LL : ∀ j, j ≤ 208 → Ex G Γ mu_ML_count 10 [some (.ref x), some (.int w), some (.int (nI (rcnt (fre F) j))), some (.int (nI (rmx (fre F) j))), some (.int (nI (rwC (fre F) j))), some (.int (nI j))] [] [LO x r f, ALo (r 2) b k y, SO (r 1) pl gn (nI n) marks, RW G (r 3) F] 0 0 := by
    refine eg_down 208 (fun j hj ih => ?_)
    refine ex_il d_ML_count_10 rfl ?_
    refine ex_k d_ML_count_12 ?_
    refine ex_icmp_ge d_ML_count_15 (fun z => ?_) (fun z => ?_)
    · have z := le_n (a := 208) z
      obtain rfl : j = 208 := by omega
      refine ex_il d_ML_count_75 rfl ?_
      by_cases e0 : w = 0
      · refine ex_eqT (.int 0 :: _) (by rw [e0]) ?_
        refine ex_tabIn (tgt := 112) d_ML_count_76 (by decide) (by decide) (by rfl) (by decide) ?_
        refine ex_al d_ML_count_112 rfl ?_
        refine ex_get1 0 fl_ML_26 d_ML_count_113 rfl rfl ?_
        refine ex_cF [1] hR (c_AL_size l G (ALo (r 2) b k y) (r 2) b k y List.mem_cons_self) (eg_invV 1 d_ML_count_116 cd_AL_size cx_ML_114 rfl rfl List.mem_cons_self rfl rfl) cd_AL_size rfl rfl (Nat.le_of_ble_eq_true rfl) (by decide) (by decide) (by decide) (by decide) rfl ?_
        refine ex_eqS [LO x r f, ALo (r 2) b k y, SO (r 1) pl gn (nI n) marks, RW G (r 3) F] rfl ?_
        exact ex_iret [LO x r f, ALo (r 2) b k y, SO (r 1) pl gn (nI n) marks, RW G (r 3) F] hG d_ML_count_119 rfl rfl (by decide) (by decide) (eg_sub.of rfl) ⟨by rw [cnR, if_pos e0], rfl⟩
      by_cases e1 : w = 1
      · refine ex_eqT (.int 1 :: _) (by rw [e1]) ?_
        refine ex_tabIn (tgt := 120) d_ML_count_76 (by decide) (by decide) (by rfl) (by decide) ?_
        refine ex_al d_ML_count_120 rfl ?_
        refine ex_get1 0 fl_ML_19 d_ML_count_121 rfl rfl ?_
        refine ex_get1 2 fl_ML_87 d_ML_count_124 rfl rfl ?_
        exact ex_iret [LO x r f, ALo (r 2) b k y, SO (r 1) pl gn (nI n) marks, RW G (r 3) F] hG d_ML_count_127 rfl rfl (by decide) (by decide) (eg_sub.of rfl) ⟨by rw [cnR, if_neg e0, if_pos e1], rfl⟩
      by_cases e2 : w = 2
      · refine ex_eqT (.int 2 :: _) (by rw [e2]) ?_
        refine ex_tabIn (tgt := 128) d_ML_count_76 (by decide) (by decide) (by rfl) (by decide) ?_
        refine ex_il d_ML_count_128 rfl ?_
        exact ex_iret [LO x r f, ALo (r 2) b k y, SO (r 1) pl gn (nI n) marks, RW G (r 3) F] hG d_ML_count_129 rfl rfl (by decide) (by decide) (eg_sub.of rfl) ⟨by rw [cnR, if_neg e0, if_neg e1, if_pos e2], rfl⟩
      by_cases e3 : w = 3
      · refine ex_eqT (.int 3 :: _) (by rw [e3]) ?_
        refine ex_tabIn (tgt := 130) d_ML_count_76 (by decide) (by decide) (by rfl) (by decide) ?_
        refine ex_il d_ML_count_130 rfl ?_
        exact ex_iret [LO x r f, ALo (r 2) b k y, SO (r 1) pl gn (nI n) marks, RW G (r 3) F] hG d_ML_count_131 rfl rfl (by decide) (by decide) (eg_sub.of rfl) ⟨by rw [cnR, if_neg e0, if_neg e1, if_neg e2, if_pos e3], rfl⟩
      by_cases e4 : w = 4
      · refine ex_eqT (.int 4 :: _) (by rw [e4]) ?_
        refine ex_tabIn (tgt := 132) d_ML_count_76 (by decide) (by decide) (by rfl) (by decide) ?_
        refine ex_al d_ML_count_132 rfl ?_
        refine ex_get1 0 fl_ML_99 d_ML_count_133 rfl rfl ?_
        exact ex_iret [LO x r f, ALo (r 2) b k y, SO (r 1) pl gn (nI n) marks, RW G (r 3) F] hG d_ML_count_136 rfl rfl (by decide) (by decide) (eg_sub.of rfl) ⟨by rw [cnR, if_neg e0, if_neg e1, if_neg e2, if_neg e3, if_pos e4], rfl⟩
      refine ex_tabOut (tgt := 137) d_ML_count_76 (by have a0 := ne_t (k := 0) (by decide) e0; have a1 := ne_t (k := 1) (by decide) e1; have a2 := ne_t (k := 2) (by decide) e2; have a3 := ne_t (k := 3) (by decide) e3; have a4 := ne_t (k := 4) (by decide) e4; omega) (by decide) ?_
      refine ex_k d_ML_count_137 ?_
      exact ex_iret [LO x r f, ALo (r 2) b k y, SO (r 1) pl gn (nI n) marks, RW G (r 3) F] hG d_ML_count_138 rfl rfl (by decide) (by decide) (eg_sub.of rfl) ⟨by rw [cnR, if_neg e0, if_neg e1, if_neg e2, if_neg e3, if_neg e4], rfl⟩
    have hlt := lt_n (a := 208) z
    have hb1 := rwC_le (fre F) (j + 1)
    have hb2 := rmx_le (fre F) j
    have J68 : ∀ z : Int32, z = nI (rmx (fre F) (j + 1)) → Ex G Γ mu_ML_count 68 [some (.ref x), some (.int w), some (.int (nI (rcnt (fre F) (j + 1)))), some (.int (nI (rmx (fre F) j))), some (.int (nI (rwC (fre F) (j + 1)))), some (.int (nI j))] [.int z] [LO x r f, ALo (r 2) b k y, SO (r 1) pl gn (nI n) marks, RW G (r 3) F] 0 0 := by
      intro z hz
      subst hz
      refine ex_is d_ML_count_68 (Nat.le_of_ble_eq_true rfl) ?_
      refine ex_inc d_ML_count_69 rfl ?_
      refine ex_goto d_ML_count_72 ?_
      exact ih hlt
    have J54 : ∀ z : Int32, z = nI (rwC (fre F) (j + 1)) → Ex G Γ mu_ML_count 54 [some (.ref x), some (.int w), some (.int (nI (rcnt (fre F) (j + 1)))), some (.int (nI (rmx (fre F) j))), some (.int (nI (rwC (fre F) j))), some (.int (nI j))] [.int z] [LO x r f, ALo (r 2) b k y, SO (r 1) pl gn (nI n) marks, RW G (r 3) F] 0 0 := by
      intro z hz
      subst hz
      refine ex_is d_ML_count_54 (Nat.le_of_ble_eq_true rfl) ?_
      refine ex_il d_ML_count_56 rfl ?_
      refine ex_il d_ML_count_58 rfl ?_
      refine ex_icmp_le d_ML_count_59 (fun z => ?_) (fun z => ?_)
      · have z : rwC (fre F) (j + 1) ≤ rmx (fre F) j := (nI_leI (by omega) (by omega)).mp z
        refine ex_il d_ML_count_67 rfl ?_
        exact J68 _ (by rw [rmx, if_neg (by omega)])
      · have z : ¬ rwC (fre F) (j + 1) ≤ rmx (fre F) j := fun w => z ((nI_leI (by omega) (by omega)).mpr w)
        refine ex_il d_ML_count_62 rfl ?_
        refine ex_goto d_ML_count_64 ?_
        exact J68 _ (by rw [rmx, if_pos (by omega)])
    have J34 : ∀ z : Int32, z = bI (fre F j) → Ex G Γ mu_ML_count 34 [some (.ref x), some (.int w), some (.int (nI (rcnt (fre F) j))), some (.int (nI (rmx (fre F) j))), some (.int (nI (rwC (fre F) j))), some (.int (nI j))] [.int z, .int (nI (rcnt (fre F) j))] [LO x r f, ALo (r 2) b k y, SO (r 1) pl gn (nI n) marks, RW G (r 3) F] 0 0 := by
      intro z hz
      subst hz
      refine ex_iadd d_ML_count_34 ?_
      rw [rcnt_I0]
      refine ex_is d_ML_count_35 (Nat.le_of_ble_eq_true rfl) ?_
      refine ex_al d_ML_count_36 rfl ?_
      refine ex_get1 0 fl_ML_32 d_ML_count_37 rfl rfl ?_
      refine ex_il d_ML_count_40 rfl ?_
      refine ex_ald61 3 d_ML_count_42 rfl (ix_e hlt) ?_
      refine ex_ifnonnull d_ML_count_43 (fun a ha => ?_) (fun ha => ?_)
      · refine ex_k d_ML_count_53 ?_
        exact J54 _ (by rw [rwC, if_neg (by rw [fre, ha]; simp)]; rfl)
      · refine ex_il d_ML_count_46 rfl ?_
        refine ex_k d_ML_count_48 ?_
        refine ex_iadd d_ML_count_49 ?_
        refine ex_goto d_ML_count_50 ?_
        exact J54 _ (by rw [rwC, if_pos (show fre F j = true from decide_eq_true ha)]; exact nI_1 _)
    refine ex_il d_ML_count_18 rfl ?_
    refine ex_al d_ML_count_19 rfl ?_
    refine ex_get1 0 fl_ML_32 d_ML_count_20 rfl rfl ?_
    refine ex_il d_ML_count_23 rfl ?_
    refine ex_ald61 3 d_ML_count_25 rfl (ix_e hlt) ?_
    refine ex_ifnonnull d_ML_count_26 (fun a ha => ?_) (fun ha => ?_)
    · refine ex_k d_ML_count_33 ?_
      exact J34 _ (by rw [show fre F j = false from by rw [fre, ha]; simp]; rfl)
    · refine ex_k d_ML_count_29 ?_
      refine ex_goto d_ML_count_30 ?_
      exact J34 _ (by rw [show fre F j = true from decide_eq_true ha]; rfl)
  refine ex_k d_ML_count_0 ?_
  refine ex_is d_ML_count_1 (Nat.le_of_ble_eq_true rfl) ?_
  refine ex_k d_ML_count_2 ?_
  refine ex_is d_ML_count_3 (Nat.le_of_ble_eq_true rfl) ?_
  refine ex_k d_ML_count_4 ?_
  refine ex_is d_ML_count_5 (Nat.le_of_ble_eq_true rfl) ?_
  refine ex_k d_ML_count_7 ?_
  refine ex_is d_ML_count_8 (Nat.le_of_ble_eq_true rfl) ?_
  exact LL 0 (Nat.zero_le _)
def lkR (L : List sE) (nmO : Nat → Int32) (v w : Int32) : Int32 := match sfind L v with
  | none => -1
  | some e => if w = 0 then e.2.2.2.1 else if w = 1 then e.2.2.1 else if w = 2 then (match e.2.2.2.2 with | none => 0 | some a => nmO a) else -1
theorem sfind_mem {L : List sE} {v : Int32} {e : sE} (h : sfind L v = some e) : e ∈ L ∧ e.2.1 = v := ⟨List.mem_of_find?_eq_some h, by have := List.find?_some h; simpa using this⟩
set_option maxRecDepth 100000 in
theorem c_ML_lookup (l : Launch) (G : eg_G) (x : Nat) (r : Nat → Nat) (f : Nat → Int32) (pl gn n : Nat) (marks : Int32) (F : Nat → Option Nat) (L : List sE) (PP : va_W) (hT : TB F gn L) (hPS : ∀ e ∈ L, syC e ∈ PP) (hN : (L.map (fun e => e.2.1)).Nodup) (nmO : Nat → Int32) (hon : ∀ e ∈ L, ∀ a, e.2.2.2.2 = some a → ∃ vs, (a, .inr (15, vs)) ∈ PP ∧ vs[0]? = some (.int (nmO a))) (v w : Int32) : Ct l G y_ML_lookup 3 0 0 [.ref x, .int v, .int w] [LO x r f, SO (r 1) pl gn (nI n) marks, SPl G pl F, SG gn, PP] (rF (some (.int (lkR L nmO v w))) [LO x r f, SO (r 1) pl gn (nI n) marks, SPl G pl F, SG gn, PP]) := by
  refine Ct.of cd_ML_lookup (eg_catb rfl) (Nat.le_of_ble_eq_true rfl) ?_
  intro Γ hG
  have hR := hG.rm
  show Ex G Γ mu_ML_lookup 0 [some (.ref x), some (.int v), some (.int w), none] [] [LO x r f, SO (r 1) pl gn (nI n) marks, SPl G pl F, SG gn, PP] 0 0
  refine ex_al d_ML_lookup_0 rfl ?_
  refine ex_get1 0 fl_ML_19 d_ML_lookup_1 rfl rfl ?_
  refine ex_il d_ML_lookup_4 rfl ?_
  refine ex_cF [1, 2, 3, 4] hR (c_Ss_find l G (r 1) pl gn (nI n) marks F L PP hT hPS hN v) (eg_invV 1 d_ML_lookup_5 cd_Ss_find cx_ML_83 rfl rfl List.mem_cons_self rfl rfl) cd_Ss_find rfl rfl (Nat.le_of_ble_eq_true rfl) (by decide) (by decide) (by decide) (by decide) rfl ?_
  refine ex_eqS [LO x r f, SO (r 1) pl gn (nI n) marks, SPl G pl F, SG gn, PP] rfl ?_
  refine ex_asq d_ML_lookup_8 (Nat.le_of_ble_eq_true rfl) ?_
  refine ex_alq d_ML_lookup_9 rfl ?_
  cases ho : sfind L v with
  | none =>
    refine ex_ifnonnull (r := none) d_ML_lookup_10 (fun a z => absurd z (by simp)) (fun _ => ?_)
    refine ex_k d_ML_lookup_13 ?_
    exact ex_iret [LO x r f, SO (r 1) pl gn (nI n) marks, SPl G pl F, SG gn, PP] hG d_ML_lookup_14 rfl rfl (by decide) (by decide) (eg_sub.of rfl) ⟨by rw [lkR, ho], rfl⟩
  | some e =>
    have he := (sfind_mem ho).1
    have hm := hPS e he
    refine ex_ifnonnull (r := some e.1) d_ML_lookup_10 (fun a z => ?_) (fun z => absurd z (by simp))
    clear z
    refine ex_eqL [some (.ref x), some (.int v), some (.int w), some (.ref e.1)] rfl ?_
    refine ex_il d_ML_lookup_15 rfl ?_
    by_cases e0 : w = 0
    · refine ex_eqT (.int 0 :: _) (by rw [e0]) ?_
      refine ex_tabIn (tgt := 44) d_ML_lookup_16 (by decide) (by decide) (by rfl) (by decide) ?_
      refine ex_al d_ML_lookup_44 rfl ?_
      refine ex_get 4 fl_ML_164 d_ML_lookup_45 rfl hm rfl ?_
      exact ex_iret [LO x r f, SO (r 1) pl gn (nI n) marks, SPl G pl F, SG gn, PP] hG d_ML_lookup_48 rfl rfl (by decide) (by decide) (eg_sub.of rfl) ⟨by rw [lkR, ho]; show _ = Sum.inl (some (Value.int (if w = 0 then _ else _))); rw [if_pos e0], rfl⟩
    by_cases e1 : w = 1
    · refine ex_eqT (.int 1 :: _) (by rw [e1]) ?_
      refine ex_tabIn (tgt := 49) d_ML_lookup_16 (by decide) (by decide) (by rfl) (by decide) ?_
      refine ex_al d_ML_lookup_49 rfl ?_
      refine ex_get 4 fl_ML_138 d_ML_lookup_50 rfl hm rfl ?_
      exact ex_iret [LO x r f, SO (r 1) pl gn (nI n) marks, SPl G pl F, SG gn, PP] hG d_ML_lookup_53 rfl rfl (by decide) (by decide) (eg_sub.of rfl) ⟨by rw [lkR, ho]; show _ = Sum.inl (some (Value.int (if w = 0 then _ else _))); rw [if_neg e0, if_pos e1], rfl⟩
    by_cases e2 : w = 2
    · refine ex_eqT (.int 2 :: _) (by rw [e2]) ?_
      refine ex_tabIn (tgt := 54) d_ML_lookup_16 (by decide) (by decide) (by rfl) (by decide) ?_
      have J72 : ∀ z : Int32, z = (match e.2.2.2.2 with | none => 0 | some a => nmO a) → Ex G Γ mu_ML_lookup 72 [some (.ref x), some (.int v), some (.int w), some (.ref e.1)] [.int z] [LO x r f, SO (r 1) pl gn (nI n) marks, SPl G pl F, SG gn, PP] 0 0 := by
        intro z hz
        subst hz
        exact ex_iret [LO x r f, SO (r 1) pl gn (nI n) marks, SPl G pl F, SG gn, PP] hG d_ML_lookup_72 rfl rfl (by decide) (by decide) (eg_sub.of rfl) ⟨by rw [lkR, ho]; show _ = Sum.inl (some (Value.int (if w = 0 then _ else _))); rw [if_neg e0, if_neg e1, if_pos e2], rfl⟩
      refine ex_al d_ML_lookup_54 rfl ?_
      refine ex_get 4 fl_ML_200 d_ML_lookup_55 rfl hm rfl ?_
      refine ex_ifnonnull d_ML_lookup_58 (fun a ha => ?_) (fun ha => ?_)
      · obtain ⟨vs, hm2, hv2⟩ := hon e he a ha
        refine ex_al d_ML_lookup_65 rfl ?_
        refine ex_get 4 fl_ML_200 d_ML_lookup_66 rfl hm rfl ?_
        refine ex_eqT [.ref a] (by rw [ha]; rfl) ?_
        refine ex_get 4 fl_ML_122 d_ML_lookup_69 rfl hm2 hv2 ?_
        exact J72 _ (by rw [ha])
      · refine ex_k d_ML_lookup_61 ?_
        refine ex_goto d_ML_lookup_62 ?_
        exact J72 _ (by rw [ha])
    refine ex_tabOut (tgt := 73) d_ML_lookup_16 (by have a0 := ne_t (k := 0) (by decide) e0; have a1 := ne_t (k := 1) (by decide) e1; have a2 := ne_t (k := 2) (by decide) e2; omega) (by decide) ?_
    refine ex_k d_ML_lookup_73 ?_
    exact ex_iret [LO x r f, SO (r 1) pl gn (nI n) marks, SPl G pl F, SG gn, PP] hG d_ML_lookup_74 rfl rfl (by decide) (by decide) (eg_sub.of rfl) ⟨by rw [lkR, ho]; show _ = Sum.inl (some (Value.int (if w = 0 then _ else _))); rw [if_neg e0, if_neg e1, if_neg e2], rfl⟩
  
def syK (L : List sE) (n : Nat) (v : Int32) : Int32 := if nmB v = true then (if (sfind L v).isSome = true ∨ 40 ≤ n then 2 else 0) else 1
set_option maxRecDepth 100000 in
theorem c_ML_symbol (l : Launch) (G : eg_G) (x : Nat) (r : Nat → Nat) (f : Nat → Int32) (pl gn n : Nat) (marks : Int32) (F : Nat → Option Nat) (L : List sE) (PP : va_W) (hT : TB F gn L) (hPS : ∀ e ∈ L, syC e ∈ PP) (hN : (L.map (fun e => e.2.1)).Nodup) (hn : L.length = n) (hn2 : n ≤ 40) (v w u : Int32) : Ct l G y_ML_symbol 7 3 20 [.ref x, .int v, .int w, .int u] [LO x r f, SO (r 1) pl gn (nI n) marks, SPl G pl F, SG gn, PP] (fun o S2 => (syK L n v = 0 ∧ o = .inl none ∧ ∃ e F2 m2, S2 = [LO x r f, SO (r 1) pl gn (nI n + 1) m2, SPl G pl F2, SG gn, (PP ++ [syC (e, v, w, u, none)])] ∧ TB F2 gn (L ++ [(e, v, w, u, none)])) ∨ (syK L n v = 1 ∧ o = .inr x_IAE ∧ S2 = [LO x r f, SO (r 1) pl gn (nI n) marks, SPl G pl F, SG gn, PP]) ∨ (syK L n v = 2 ∧ o = .inr x_ISE ∧ S2 = [LO x r f, SO (r 1) pl gn (nI n) marks, SPl G pl F, SG gn, PP])) := by
  refine Ct.of cd_ML_symbol (eg_catb rfl) (Nat.le_of_ble_eq_true rfl) ?_
  intro Γ hG
  have hR := hG.rm
  show Ex G Γ mu_ML_symbol 0 [some (.ref x), some (.int v), some (.int w), some (.int u)] [] [LO x r f, SO (r 1) pl gn (nI n) marks, SPl G pl F, SG gn, PP] 0 0
  refine ex_il d_ML_symbol_0 rfl ?_
  refine ex_cP hR (c_ML_isName l G v) (eg_invS d_ML_symbol_1 cd_ML_isName cx_ML_76 rfl rfl) cd_ML_isName (Nat.le_of_ble_eq_true rfl) (by decide) (by decide) (by decide) (by decide) rfl ?_
  refine ex_cCV [] hR (c_ML_fits l G (nmB v)) (eg_invS d_ML_symbol_4 cd_ML_fits cx_ML_80 rfl rfl) cd_ML_fits rfl rfl (Nat.le_of_ble_eq_true rfl) (by decide) (by decide) (by decide) (by decide) rfl (fun hc => ?_) (fun hc => ?_)
  rotate_left
  · exact ext_leave [LO x r f, SO (r 1) pl gn (nI n) marks, SPl G pl F, SG gn, PP] hG (fun _ h => absurd h List.not_mem_nil) (by decide) (by decide) (eg_sub.of rfl) (Or.inr (Or.inl ⟨by rw [syK, if_neg hc], rfl, rfl⟩))
  refine ex_eqS [LO x r f, SO (r 1) pl gn (nI n) marks, SPl G pl F, SG gn, PP] rfl ?_
  refine ex_al d_ML_symbol_7 rfl ?_
  refine ex_get1 0 fl_ML_19 d_ML_symbol_8 rfl rfl ?_
  refine ex_il d_ML_symbol_11 rfl ?_
  refine ex_cF [1, 2, 3, 4] hR (c_Ss_find l G (r 1) pl gn (nI n) marks F L PP hT hPS hN v) (eg_invV 1 d_ML_symbol_12 cd_Ss_find cx_ML_83 rfl rfl List.mem_cons_self rfl rfl) cd_Ss_find rfl rfl (Nat.le_of_ble_eq_true rfl) (by decide) (by decide) (by decide) (by decide) rfl ?_
  refine ex_eqS [LO x r f, SO (r 1) pl gn (nI n) marks, SPl G pl F, SG gn, PP] rfl ?_
  refine ex_ifnonnull d_ML_symbol_15 (fun a ha => ?_) (fun ha => ?_)
  · have hbad : (sfind L v).isSome = true ∨ 40 ≤ n := Or.inl (by cases hs : sfind L v with | none => rw [hs] at ha; exact absurd ha (by simp) | some e => rfl)
    refine ex_k d_ML_symbol_34 ?_
    refine ex_cCV [] hR (c_ML_state l G false) (eg_invS d_ML_symbol_35 cd_ML_state cx_ML_61 rfl rfl) cd_ML_state rfl rfl (Nat.le_of_ble_eq_true rfl) (by decide) (by decide) (by decide) (by decide) rfl (fun hb => ?_) (fun hb => ?_)
    rotate_left
    · exact ext_leave [LO x r f, SO (r 1) pl gn (nI n) marks, SPl G pl F, SG gn, PP] hG (fun _ h => absurd h List.not_mem_nil) (by decide) (by decide) (eg_sub.of rfl) (Or.inr (Or.inr ⟨by rw [syK, if_pos hc, if_pos hbad], rfl, rfl⟩))
    exact absurd hb (by decide)
  have hno : sfind L v = none := by cases hs : sfind L v with | none => rfl | some e => rw [hs] at ha; exact absurd ha (by simp)
  refine ex_al d_ML_symbol_18 rfl ?_
  refine ex_get1 0 fl_ML_19 d_ML_symbol_19 rfl rfl ?_
  refine ex_get1 1 fl_ML_87 d_ML_symbol_22 rfl rfl ?_
  refine ex_k d_ML_symbol_25 ?_
  refine ex_icmp_ge d_ML_symbol_27 (fun z => ?_) (fun z => ?_)
  · have hbad : (sfind L v).isSome = true ∨ 40 ≤ n := Or.inr (le_n (a := 40) z)
    refine ex_k d_ML_symbol_34 ?_
    refine ex_cCV [] hR (c_ML_state l G false) (eg_invS d_ML_symbol_35 cd_ML_state cx_ML_61 rfl rfl) cd_ML_state rfl rfl (Nat.le_of_ble_eq_true rfl) (by decide) (by decide) (by decide) (by decide) rfl (fun hb => ?_) (fun hb => ?_)
    rotate_left
    · exact ext_leave [LO x r f, SO (r 1) pl gn (nI n) marks, SPl G pl F, SG gn, PP] hG (fun _ h => absurd h List.not_mem_nil) (by decide) (by decide) (eg_sub.of rfl) (Or.inr (Or.inr ⟨by rw [syK, if_pos hc, if_pos hbad], rfl, rfl⟩))
    exact absurd hb (by decide)
  have hlt := lt_n (a := 40) z
  refine ex_k d_ML_symbol_30 ?_
  refine ex_goto d_ML_symbol_31 ?_
  refine ex_cCV [] hR (c_ML_state l G true) (eg_invS d_ML_symbol_35 cd_ML_state cx_ML_61 rfl rfl) cd_ML_state rfl rfl (Nat.le_of_ble_eq_true rfl) (by decide) (by decide) (by decide) (by decide) rfl (fun hb => ?_) (fun hb => ?_)
  rotate_left
  · exact absurd rfl hb
  refine ex_eqS [LO x r f, SO (r 1) pl gn (nI n) marks, SPl G pl F, SG gn, PP] rfl ?_
  refine ex_al d_ML_symbol_38 rfl ?_
  refine ex_get1 0 fl_ML_19 d_ML_symbol_39 rfl rfl ?_
  refine ex_new hR nw_ML_90 d_ML_symbol_42 (by decide) (by decide) (fun e => ?_)
  refine ex_eqS [LO x r f, SO (r 1) pl gn (nI n) marks, SPl G pl F, SG gn, PP, SG e] rfl ?_
  refine ex_dup d_ML_symbol_45 rfl ?_
  refine ex_il d_ML_symbol_46 rfl ?_
  refine ex_il d_ML_symbol_47 rfl ?_
  refine ex_il d_ML_symbol_48 rfl ?_
  refine ex_null d_ML_symbol_49 ?_
  refine ex_cV [5] hR (c_Sy_init l G e v w u none) (eg_invI d_ML_symbol_50 cd_Sy_init rfl rfl tw_216 cx_ML_92 rfl rfl) cd_Sy_init rfl rfl (Nat.le_of_ble_eq_true rfl) (by decide) (by decide) (by decide) (by decide) rfl ?_
  refine ex_eqS [LO x r f, SO (r 1) pl gn (nI n) marks, SPl G pl F, SG gn, PP, [syC (e, v, w, u, none)]] rfl ?_
  refine ex_nd (fun hnd => ?_)
  have hL2 : L.length < 64 := by omega
  obtain ⟨hg1, hg2⟩ : e ≠ gn ∧ e ∉ L.map (fun e => e.1) := by
    simp only [List.flatten_cons, List.flatten_nil, List.append_nil, List.map_append] at hnd
    have h1 := (List.nodup_append.mp hnd).2.1
    have h2 := (List.nodup_append.mp h1).2.1
    have h3 := (List.nodup_append.mp h2).2.1
    have h4 := List.nodup_append.mp h3
    have h5 := List.nodup_append.mp h4.2.1
    refine ⟨fun z => ?_, fun z => ?_⟩
    · exact h4.2.2 gn List.mem_cons_self e (List.mem_append_right _ List.mem_cons_self) z.symm
    · obtain ⟨e', he', z⟩ := List.mem_map.mp z
      exact h5.2.2 e'.1 (List.mem_map.mpr ⟨_, hPS e' he', rfl⟩) e List.mem_cons_self z
  refine ex_re [LO x r f, SO (r 1) pl gn (nI n) marks, SPl G pl F, SG gn, (PP ++ [syC (e, v, w, u, none)])] (eg_sub.of (by simp)) ?_
  refine ex_call [1, 2, 3, 4] hR (c_Ss_add l G (r 1) pl gn (nI n) marks F L (PP ++ [syC (e, v, w, u, none)]) hT (fun e' he' => List.mem_append_left _ (hPS e' he')) (e, v, w, u, none) (List.mem_append_right _ List.mem_cons_self) hL2 hg1 hg2) (eg_invV 1 d_ML_symbol_53 cd_Ss_add cx_ML_95 rfl rfl List.mem_cons_self rfl rfl) cd_Ss_add rfl rfl (Nat.le_of_ble_eq_true rfl) (by decide) (by decide) (by decide) (by decide) (fun v S1 hK1 => ?_) (fun E S1 hK1 => ?_)
  rotate_left
  · obtain ⟨F2, m2, h1, rfl, hT2⟩ := hK1
    cases h1
  obtain ⟨F2, m2, h1, rfl, hT2⟩ := hK1
  cases h1
  refine ex_eqS [LO x r f, SO (r 1) pl gn (nI n + 1) m2, SPl G pl F2, SG gn, (PP ++ [syC (e, v, w, u, none)])] rfl ?_
  exact ex_vret [LO x r f, SO (r 1) pl gn (nI n + 1) m2, SPl G pl F2, SG gn, (PP ++ [syC (e, v, w, u, none)])] hG d_ML_symbol_56 rfl (by decide) (by decide) (eg_sub.of rfl) (Or.inl ⟨by rw [syK, if_pos hc, if_neg (fun w => w.elim (by rw [hno]; simp) (by omega))], rfl, e, F2, m2, rfl, hT2⟩)
  
