/-! THE LOADER, 13: a module leaves -/
def delN (ma : Nat → Nat) (i : Nat) : Nat → Nat := fun j => if j < i then ma j else ma (j + 1)
theorem delF_ls (ma : Nat → Nat) {k i : Nat} (hi : i < k) : delF (lsF ma k) i = lsF (delN ma i) (k - 1) := funext fun j => by
  unfold delF lsF delN
  by_cases h : j < i
  · rw [if_pos h, if_pos (by omega), if_pos (by omega), if_pos h]
  · rw [if_neg h, if_neg h]
    by_cases h2 : j + 1 < k
    · rw [if_pos h2, if_pos (by omega)]
    · rw [if_neg h2, if_neg (by omega)]
theorem delN_lt {ma : Nat → Nat} {i j : Nat} (h : j < i) : delN ma i j = ma j := if_pos h
theorem lsF_E {ma : Nat → Nat} {k ci : Nat} {PP : va_W} (h : ∀ i, i < k → ∃ fs, (ma i, .inr (ci, fs)) ∈ PP) : ∀ i y, lsF ma k i = some y → ∃ fs, (y, .inr (ci, fs)) ∈ PP := fun i y e => by
  by_cases z : i < k
  · rw [lsF_lt _ z] at e
    cases e
    exact h i z
  · rw [lsF_n _ _ _ (by omega)] at e
    cases e
theorem va_rf_cat (o : Option Nat) : (va_rf o).category = 1 := by cases o <;> rfl
set_option maxRecDepth 100000 in
set_option maxHeartbeats 2000000 in
theorem c_ML_leave (l : Launch) (G : eg_G) (x : Nat) (r : Nat → Nat) (f : Nat → Int32) (a : Nat → Nat) (M : Nat → Int32) (P : Int32 → Bool) (R : Nat → Int32) (pc tr md : Int32) (hr0 : r 0 = a 0) (pl gn : Nat) (marks : Int32) (F : Nat → Option Nat) (L : List sE) (PP : va_W) (hT : TB F gn L) (hPS : ∀ e ∈ L, syC e ∈ PP) (hL : L.length ≤ 40) (b k : Nat) (y : Int32) (q : va_W) (ma : Nat → Nat) (hw : ALw G b k (lsF ma k) q) (hk : k ≤ 12) (hmo : ∀ i, i < k → ∃ fs, (ma i, .inr (15, fs)) ∈ PP) (Fr : Nat → Option Nat) (m u s gu : Nat) (vs : List Value) (hm : (m, .inr (15, vs)) ∈ PP) (hv1 : vs[1]? = some (.int (nI (512 + 16 * u)))) (hv2 : vs[2]? = some (.int (nI s))) (hv3 : vs[3]? = some (.int (nI gu))) (hu : u + (s + 15) / 16 ≤ 208) (hgb : 512 + 16 * u + gu ≤ 4096) (i0 : Nat) (hi0 : i0 < k) (hi1 : ma i0 = m) (hun : ∀ i, i < k → ma i = m → i = i0) : Ct l G y_ML_leave 6 1 64 [.ref x, .ref m] [LO x r f, MA G a M P R pc tr md, SO (r 1) pl gn (nI L.length) marks, SPl G pl F, SG gn, PP, ALo (r 2) b k y, q, RW G (r 3) Fr] (fun o S2 => ∃ pl2 F2 m2 y2 q2, o = .inl none ∧ S2 = [LO x r f, MA G a M (gdU P (512 + 16 * u) false gu) R pc tr md, SO (r 1) pl2 gn (nI (L.filter (nOf m)).length) m2, SPl G pl2 F2, SG gn, PP, ALo (r 2) b (k - 1) y2, q2, RW G (r 3) (owF Fr u none ((s + 15) / 16))] ∧ TB F2 gn (L.filter (nOf m)) ∧ ALw G b (k - 1) (lsF (delN ma i0) (k - 1)) q2) := by
  refine Ct.of cd_ML_leave (eg_catb rfl) (Nat.le_of_ble_eq_true rfl) ?_
  intro Γ hG
  have hR := hG.rm
  show Ex G Γ mu_ML_leave 0 [some (.ref x), some (.ref m), none] [] [LO x r f, MA G a M P R pc tr md, SO (r 1) pl gn (nI L.length) marks, SPl G pl F, SG gn, PP, ALo (r 2) b k y, q, RW G (r 3) Fr] 0 0
  obtain ⟨cap, hq, hcp, hcl⟩ : ∃ cap, q = ALq G b cap (lsF ma k) ∧ cpO cap ∧ k ≤ cap := by
    rcases hw with ⟨-, -, z⟩ | z
    · omega
    · exact z
  have hw2 : ALw G b (k - 1) (lsF (delN ma i0) (k - 1)) (ALq G b cap (lsF (delN ma i0) (k - 1))) := Or.inr ⟨cap, rfl, hcp, by omega⟩
  refine ex_al d_ML_leave_0 rfl ?_
  refine ex_al d_ML_leave_1 rfl ?_
  refine ex_null d_ML_leave_2 ?_
  refine ex_cV [0, 5, 8] hR (c_ML_own l G x r f PP Fr m u s vs hm hv1 hv2 hu none (fun o z => absurd z (by simp))) (eg_invV 0 d_ML_leave_3 cd_ML_own cx_ML_194 rfl rfl List.mem_cons_self rfl rfl) cd_ML_own rfl rfl (Nat.le_of_ble_eq_true rfl) (by decide) (by decide) (by decide) (by decide) rfl ?_
  refine ex_eqS [LO x r f, MA G a M P R pc tr md, SO (r 1) pl gn (nI L.length) marks, SPl G pl F, SG gn, PP, ALo (r 2) b k y, q, RW G (r 3) (owF Fr u none ((s + 15) / 16))] rfl ?_
  refine ex_al d_ML_leave_6 rfl ?_
  refine ex_al d_ML_leave_7 rfl ?_
  refine ex_get 5 fl_ML_149 d_ML_leave_8 rfl hm hv1 ?_
  refine ex_al d_ML_leave_11 rfl ?_
  refine ex_get 5 fl_ML_198 d_ML_leave_12 rfl hm hv3 ?_
  refine ex_k d_ML_leave_15 ?_
  refine ex_cV [0, 1] hR (c_ML_guard l G x r f a M P R pc tr md hr0 (512 + 16 * u) gu false hgb) (eg_invV 0 d_ML_leave_16 cd_ML_guard cx_ML_72 rfl rfl List.mem_cons_self rfl rfl) cd_ML_guard rfl rfl (Nat.le_of_ble_eq_true rfl) (by decide) (by decide) (by decide) (by decide) rfl ?_
  refine ex_eqS [LO x r f, MA G a M (gdU P (512 + 16 * u) false gu) R pc tr md, SO (r 1) pl gn (nI L.length) marks, SPl G pl F, SG gn, PP, ALo (r 2) b k y, q, RW G (r 3) (owF Fr u none ((s + 15) / 16))] rfl ?_
  refine ex_al d_ML_leave_19 rfl ?_
  refine ex_get1 0 fl_ML_19 d_ML_leave_20 rfl rfl ?_
  refine ex_al d_ML_leave_23 rfl ?_
  refine ex_call [2, 3, 4, 5] hR (c_Ss_drop l G (r 1) pl gn m marks F L PP hT hPS hL) (eg_invV 2 d_ML_leave_24 cd_Ss_drop cx_ML_220 rfl rfl List.mem_cons_self rfl rfl) cd_Ss_drop rfl rfl (Nat.le_of_ble_eq_true rfl) (by decide) (by decide) (by decide) (by decide) (fun v S1 hK1 => ?_) (fun E S1 hK1 => ?_)
  rotate_left
  · obtain ⟨pl2, F2, m2, h1, rfl, hT2⟩ := hK1
    cases h1
  obtain ⟨pl2, F2, m2, h1, rfl, hT2⟩ := hK1
  cases h1
  refine ex_eqS [LO x r f, MA G a M (gdU P (512 + 16 * u) false gu) R pc tr md, SO (r 1) pl2 gn (nI (L.filter (nOf m)).length) m2, SPl G pl2 F2, SG gn, PP, ALo (r 2) b k y, q, RW G (r 3) (owF Fr u none ((s + 15) / 16))] rfl ?_
  refine ex_al d_ML_leave_27 rfl ?_
  refine ex_get1 0 fl_ML_26 d_ML_leave_28 rfl rfl ?_
  refine ex_cF [6] hR (c_AL_size l G (ALo (r 2) b k y) (r 2) b k y List.mem_cons_self) (eg_invV 6 d_ML_leave_31 cd_AL_size cx_ML_114 rfl rfl List.mem_cons_self rfl rfl) cd_AL_size rfl rfl (Nat.le_of_ble_eq_true rfl) (by decide) (by decide) (by decide) (by decide) rfl ?_
  refine ex_eqS [LO x r f, MA G a M (gdU P (512 + 16 * u) false gu) R pc tr md, SO (r 1) pl2 gn (nI (L.filter (nOf m)).length) m2, SPl G pl2 F2, SG gn, PP, ALo (r 2) b k y, q, RW G (r 3) (owF Fr u none ((s + 15) / 16))] rfl ?_
  refine ex_k d_ML_leave_34 ?_
  refine ex_isub d_ML_leave_35 ?_
  refine ex_is d_ML_leave_36 (Nat.le_of_ble_eq_true rfl) ?_
  have L1 : ∀ c, c ≤ i0 → Ex G Γ mu_ML_leave 37 [some (.ref x), some (.ref m), some (.int (nI c - 1))] [] [LO x r f, MA G a M (gdU P (512 + 16 * u) false gu) R pc tr md, SO (r 1) pl2 gn (nI (L.filter (nOf m)).length) m2, SPl G pl2 F2, SG gn, PP, ALo (r 2) b (k - 1) (y + 1), (ALq G b cap (lsF (delN ma i0) (k - 1))), RW G (r 3) (owF Fr u none ((s + 15) / 16))] 1 64 := by
    intro c
    induction c with
    | zero =>
      intro _
      refine ex_il d_ML_leave_37 rfl ?_
      refine ex_if_lt d_ML_leave_38 (fun _ => ?_) (fun z => absurd (show nI 0 - 1 < 0 by decide) z)
      exact ex_vret [LO x r f, MA G a M (gdU P (512 + 16 * u) false gu) R pc tr md, SO (r 1) pl2 gn (nI (L.filter (nOf m)).length) m2, SPl G pl2 F2, SG gn, PP, ALo (r 2) b (k - 1) (y + 1), (ALq G b cap (lsF (delN ma i0) (k - 1))), RW G (r 3) (owF Fr u none ((s + 15) / 16))] hG d_ML_leave_68 rfl (by decide) (by decide) (eg_sub.of rfl) ⟨pl2, F2, m2, _, _, rfl, rfl, hT2, hw2⟩
    | succ c ih =>
      intro hc
      rw [nI_pred]
      refine ex_il d_ML_leave_37 rfl ?_
      refine ex_if_lt d_ML_leave_38 (fun z => absurd z (nI_pos (by omega))) (fun _ => ?_)
      refine ex_al d_ML_leave_41 rfl ?_
      refine ex_get1 0 fl_ML_26 d_ML_leave_42 rfl rfl ?_
      refine ex_il d_ML_leave_45 rfl ?_
      refine ex_cF [6, 7] hR (c_AL_getw l G (r 2) b (k - 1) (y + 1) (lsF (delN ma i0) (k - 1)) (ALq G b cap (lsF (delN ma i0) (k - 1))) hw2 c (by omega)) (eg_invV 6 d_ML_leave_46 cd_AL_get cx_ML_118 rfl rfl List.mem_cons_self rfl rfl) cd_AL_get rfl rfl (Nat.le_of_ble_eq_true rfl) (by decide) (by decide) (by decide) (by decide) rfl ?_
      refine ex_eqS [LO x r f, MA G a M (gdU P (512 + 16 * u) false gu) R pc tr md, SO (r 1) pl2 gn (nI (L.filter (nOf m)).length) m2, SPl G pl2 F2, SG gn, PP, ALo (r 2) b (k - 1) (y + 1), (ALq G b cap (lsF (delN ma i0) (k - 1))), RW G (r 3) (owF Fr u none ((s + 15) / 16))] rfl ?_
      refine ex_eqT [.ref (ma c)] (by rw [lsF_lt _ (by omega), delN_lt (by omega)]; rfl) ?_
      refine ex_al d_ML_leave_49 rfl ?_
      refine ex_acmp_ne (rx := some (ma c)) (ry := some m) d_ML_leave_50 (fun z => ?_) (fun z => ?_)
      · refine ex_iinc d_ML_leave_62 rfl ?_
        refine ex_goto d_ML_leave_65 ?_
        exact ex_eqL _ (by show [some (Value.ref x), some (Value.ref m), some (Value.int (nI c + -1))] = _; rw [← Int32.sub_eq_add_neg]) (ih (by omega))
      exact absurd (hun c (by omega) (Option.some.inj z)) (by omega)
  have L2 : ∀ c, c ≤ k → i0 < c → Ex G Γ mu_ML_leave 37 [some (.ref x), some (.ref m), some (.int (nI c - 1))] [] [LO x r f, MA G a M (gdU P (512 + 16 * u) false gu) R pc tr md, SO (r 1) pl2 gn (nI (L.filter (nOf m)).length) m2, SPl G pl2 F2, SG gn, PP, ALo (r 2) b k y, q, RW G (r 3) (owF Fr u none ((s + 15) / 16))] 1 64 := by
    intro c
    induction c with
    | zero => exact fun _ hc => absurd hc (by omega)
    | succ c ih =>
      intro hck hc
      rw [nI_pred]
      refine ex_il d_ML_leave_37 rfl ?_
      refine ex_if_lt d_ML_leave_38 (fun z => absurd z (nI_pos (by omega))) (fun _ => ?_)
      refine ex_al d_ML_leave_41 rfl ?_
      refine ex_get1 0 fl_ML_26 d_ML_leave_42 rfl rfl ?_
      refine ex_il d_ML_leave_45 rfl ?_
      refine ex_cF [6, 7] hR (c_AL_getw l G (r 2) b k y (lsF ma k) q hw c (by omega)) (eg_invV 6 d_ML_leave_46 cd_AL_get cx_ML_118 rfl rfl List.mem_cons_self rfl rfl) cd_AL_get rfl rfl (Nat.le_of_ble_eq_true rfl) (by decide) (by decide) (by decide) (by decide) rfl ?_
      refine ex_eqS [LO x r f, MA G a M (gdU P (512 + 16 * u) false gu) R pc tr md, SO (r 1) pl2 gn (nI (L.filter (nOf m)).length) m2, SPl G pl2 F2, SG gn, PP, ALo (r 2) b k y, q, RW G (r 3) (owF Fr u none ((s + 15) / 16))] rfl ?_
      refine ex_eqT [.ref (ma c)] (by rw [lsF_lt _ (by omega)]; rfl) ?_
      refine ex_al d_ML_leave_49 rfl ?_
      refine ex_acmp_ne (rx := some (ma c)) (ry := some m) d_ML_leave_50 (fun z => ?_) (fun z => ?_)
      · have hci : i0 < c := by
          rcases Nat.lt_or_ge i0 c with w | w
          · exact w
          · exact absurd (show some (ma c) = some m by rw [show c = i0 by omega, hi1]) z
        refine ex_iinc d_ML_leave_62 rfl ?_
        refine ex_goto d_ML_leave_65 ?_
        exact ex_eqL _ (by show [some (Value.ref x), some (Value.ref m), some (Value.int (nI c + -1))] = _; rw [← Int32.sub_eq_add_neg]) (ih (by omega) hci)
      have hci : c = i0 := hun c (by omega) (Option.some.inj z)
      subst hci
      subst hq
      refine ex_al d_ML_leave_53 rfl ?_
      refine ex_get1 0 fl_ML_26 d_ML_leave_54 rfl rfl ?_
      refine ex_il d_ML_leave_57 rfl ?_
      refine ex_cF [6, 7, 5] hR (c_AL_remove l G 15 7 "ModuleLoader$Module" F_Mo rfl ca_Mo PP (r 2) b k cap c (by omega) hcl (by have := cpO_lt hcp; omega) y (lsF ma k) (lsF_n ma k) (lsF_E hmo)) (eg_invV 6 d_ML_leave_58 cd_AL_remove cx_ML_224 rfl rfl List.mem_cons_self rfl rfl) cd_AL_remove rfl rfl (Nat.le_of_ble_eq_true rfl) (by decide) (by decide) (by decide) (by decide) rfl ?_
      refine ex_eqS [LO x r f, MA G a M (gdU P (512 + 16 * u) false gu) R pc tr md, SO (r 1) pl2 gn (nI (L.filter (nOf m)).length) m2, SPl G pl2 F2, SG gn, PP, ALo (r 2) b (k - 1) (y + 1), (ALq G b cap (delF (lsF ma k) c)), RW G (r 3) (owF Fr u none ((s + 15) / 16))] rfl ?_
      refine ex_pop d_ML_leave_61 (va_rf_cat _) ?_
      rw [delF_ls ma (by omega)]
      refine ex_iinc d_ML_leave_62 rfl ?_
      refine ex_goto d_ML_leave_65 ?_
      exact ex_eqL _ (by show [some (Value.ref x), some (Value.ref m), some (Value.int (nI c + -1))] = _; rw [← Int32.sub_eq_add_neg]) (L1 c (Nat.le_refl _))
  exact L2 k (Nat.le_refl _) hi0
