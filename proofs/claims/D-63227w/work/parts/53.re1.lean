/-! THE READER, 1: words -/
def RO (ro tp t at' : Nat) (im : Value) (ini exi gua : Int32) (la lb lc : Nat) : va_W := [(ro, .inr (11, [.ref tp, .int (nI t), .int (nI at'), im, .int ini, .int exi, .int gua, .ref la, .ref lb, .ref lc]))]
def TP (G : eg_G) (tp : Nat) (T : Nat → Int32) : va_W := [(tp, .inl (eg_c G 0, 1200, .inl (bt T)))]
theorem eg_sk {A B : va_W} : eg_sub ([([] : va_W), B].flatten) ([A, B].flatten) := ⟨A, by simp; exact List.perm_append_comm⟩
set_option maxRecDepth 100000 in
theorem c_Re_need (l : Launch) (G : eg_G) (ro : Nat) (b : Bool) : Ct l G y_Re_need 6 1 6 [.ref ro, .int (bI b)] [] (rC (b = true) none [] x_IAE []) := by
  refine Ct.of cd_Re_need (eg_catb rfl) (Nat.le_of_ble_eq_true rfl) ?_
  intro Γ hG
  have hR := hG.rm
  show Ex G Γ mu_Re_need 0 [some (.ref ro), some (.int (bI b))] [] [] 0 0
  refine ex_il d_Re_need_0 rfl ?_
  refine ex_if_ne d_Re_need_1 (fun h1 => ?_) (fun h1 => ?_)
  · skip
    have hb : b = true := by cases b; exact absurd rfl h1; rfl
    exact ex_vret [] hG d_Re_need_12 rfl (by decide) (by decide) (eg_sub.of rfl) (Or.inl ⟨hb, rfl, rfl⟩)
  · skip
    have hb : ¬ b = true := by rw [bI_0.mp h1]; decide
    exact ex_thr [] hG d_Re_need_4.1 d_Re_need_7.1 d_Re_need_8.1 d_Re_need_11.1 th_Re_need (fun _ h => absurd h List.not_mem_nil) (Nat.le_of_ble_eq_true rfl) (by decide) (by decide) (by decide) (eg_sub.of rfl) (Or.inr ⟨hb, rfl, rfl⟩)
set_option maxRecDepth 100000 in
theorem c_Re_word (l : Launch) (G : eg_G) (ro tp t p : Nat) (im : Value) (ini exi gua : Int32) (la lb lc : Nat) (T : Nat → Int32) (hTb : ∀ i, T i &&& 255 = T i) (ht : t ≤ 1200) (hp : p ≤ t) : Ct l G y_Re_word 7 1 6 [.ref ro] [RO ro tp t p im ini exi gua la lb lc, TP G tp T] (rC (p + 4 ≤ t) (some (.int (wdA T p))) [RO ro tp t (p + 4) im ini exi gua la lb lc, TP G tp T] x_IAE [[], TP G tp T]) := by
  refine Ct.of cd_Re_word (eg_catb rfl) (Nat.le_of_ble_eq_true rfl) ?_
  intro Γ hG
  have hR := hG.rm
  show Ex G Γ mu_Re_word 0 [some (.ref ro), none, none] [] [RO ro tp t p im ini exi gua la lb lc, TP G tp T] 0 0
  have J19 : Ex G Γ mu_Re_word 19 [some (.ref ro), none, none] [.int (bI (decide (p + 4 ≤ t))), .ref ro] [RO ro tp t p im ini exi gua la lb lc, TP G tp T] 0 0 := by
    refine ex_cCV [] hR (c_Re_need l G ro (decide (p + 4 ≤ t))) (eg_invV 0 d_Re_word_19 cd_Re_need cx_Re_38 rfl rfl List.mem_cons_self rfl rfl) cd_Re_need rfl rfl (Nat.le_of_ble_eq_true rfl) (by decide) (by decide) (by decide) (by decide) rfl (fun hc => ?_) (fun hc => ?_)
    · have hc : p + 4 ≤ t := of_decide_eq_true hc
      refine ex_eqS [RO ro tp t p im ini exi gua la lb lc, TP G tp T] rfl ?_
      refine ex_k d_Re_word_22 ?_
      refine ex_is d_Re_word_23 (Nat.le_of_ble_eq_true rfl) ?_
      refine ex_k d_Re_word_24 ?_
      refine ex_is d_Re_word_25 (Nat.le_of_ble_eq_true rfl) ?_
      have LL : ∀ j, j ≤ 4 → Ex G Γ mu_Re_word 26 [some (.ref ro), some (.int (rdJ T p 4 j)), some (.int (nI (4 - j) - 1))] [] [RO ro tp t p im ini exi gua la lb lc, TP G tp T] 1 6 := by
        refine eg_down 4 (fun j hj ih => ?_)
        refine ex_il d_Re_word_26 rfl ?_
        refine ex_if_lt d_Re_word_27 (fun z => ?_) (fun z => ?_)
        · have hj4 : j = 4 := by
            rcases Nat.lt_or_ge j 4 with y | y
            · refine absurd z ?_
              rw [show nI (4 - j) - 1 = nI (4 - j - 1) from by rw [show (1 : Int32) = nI 1 from rfl, pk_sub (by omega)]]
              exact nI_pos (by omega)
            · omega
          subst hj4
          refine ex_al d_Re_word_57 rfl ?_
          refine ex_dup d_Re_word_58 rfl ?_
          refine ex_get1 0 fl_Re_35 d_Re_word_59 rfl rfl ?_
          refine ex_k d_Re_word_62 ?_
          refine ex_iadd d_Re_word_63 ?_
          refine ex_eqT [.int (nI (p + 4)), .ref ro] (by rw [← nI_add]; rfl) ?_
          refine ex_put1 0 wl_Re_35 d_Re_word_64 rfl rfl rfl (Nat.le_of_ble_eq_true rfl) ?_
          refine ex_eqS [RO ro tp t (p + 4) im ini exi gua la lb lc, TP G tp T] rfl ?_
          refine ex_il d_Re_word_67 rfl ?_
          exact ex_iret [RO ro tp t (p + 4) im ini exi gua la lb lc, TP G tp T] hG d_Re_word_68 rfl rfl (by decide) (by decide) (eg_sub.of rfl) (Or.inl ⟨hc, by rw [rdJ_4], rfl⟩)
        · have hlt : j < 4 := by
            rcases Nat.lt_or_ge j 4 with y | y
            · exact y
            · refine absurd ?_ z
              rw [show 4 - j = 0 by omega]
              decide
          have e1 : nI (4 - j) - 1 = nI (4 - (j + 1)) := by rw [show (1 : Int32) = nI 1 from rfl, pk_sub (by omega), show 4 - j - 1 = 4 - (j + 1) by omega]
          refine ex_il d_Re_word_30 rfl ?_
          refine ex_k d_Re_word_31 ?_
          refine ex_ishl d_Re_word_33 ?_
          refine ex_al d_Re_word_34 rfl ?_
          refine ex_get1 0 fl_Re_24 d_Re_word_35 rfl rfl ?_
          refine ex_al d_Re_word_38 rfl ?_
          refine ex_get1 0 fl_Re_35 d_Re_word_39 rfl rfl ?_
          refine ex_il d_Re_word_42 rfl ?_
          refine ex_iadd d_Re_word_43 ?_
          refine ex_bald1 1 d_Re_word_44 rfl (ix_e (j := p + (4 - (j + 1))) (by omega) (by rw [e1]; exact nI_add _ _)) ?_
          refine ex_k d_Re_word_45 ?_
          refine ex_iand d_Re_word_48 ?_
          rw [bt_and T _ (hTb _)]
          refine ex_ior d_Re_word_49 ?_
          refine ex_is d_Re_word_50 (Nat.le_of_ble_eq_true rfl) ?_
          refine ex_iinc d_Re_word_51 rfl ?_
          refine ex_goto d_Re_word_54 ?_
          exact ex_eqL [some (.ref ro), some (.int (rdJ T p 4 (j + 1))), some (.int (nI (4 - (j + 1)) - 1))] (by rw [show nI (4 - (j + 1)) - 1 = nI (4 - j) - 1 + Int32.ofInt (-1) from by rw [e1, Int32.sub_eq_add_neg]; rfl]; rfl) (ih hlt)
      exact LL 0 (Nat.zero_le _)
    · have hc : ¬ p + 4 ≤ t := fun z => hc (decide_eq_true z)
      exact ext_leave [[], TP G tp T] hG (fun _ h => absurd h List.not_mem_nil) (by decide) (by decide) eg_sk (Or.inr ⟨hc, rfl, rfl⟩)
  refine ex_al d_Re_word_0 rfl ?_
  refine ex_al d_Re_word_1 rfl ?_
  refine ex_get1 0 fl_Re_35 d_Re_word_2 rfl rfl ?_
  refine ex_k d_Re_word_5 ?_
  refine ex_iadd d_Re_word_6 ?_
  refine ex_al d_Re_word_7 rfl ?_
  refine ex_get1 0 fl_Re_28 d_Re_word_8 rfl rfl ?_
  refine ex_eqT [.int (nI t), .int (nI (p + 4)), .ref ro] (by rw [← nI_add]; rfl) ?_
  refine ex_icmp_gt d_Re_word_11 (fun z => ?_) (fun z => ?_)
  · have z : ¬ p + 4 ≤ t := fun y => absurd z (nI_nlt y (by omega))
    refine ex_k d_Re_word_18 ?_
    exact ex_eqT _ (by rw [decide_eq_false z]; rfl) J19
  · have z : p + 4 ≤ t := by
      rcases Nat.lt_or_ge t (p + 4) with y | y
      · exact absurd (nI_lt y (by omega)) z
      · exact y
    refine ex_k d_Re_word_14 ?_
    refine ex_goto d_Re_word_15 ?_
    exact ex_eqT _ (by rw [decide_eq_true z]; rfl) J19
