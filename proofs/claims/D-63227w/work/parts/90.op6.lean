/-! THE LAW'S HELPERS -/
def OU (G : eg_G) (ou : Nat) (z : Nat → Int64) : va_W := [(ou, .inl (eg_c G 3, 1, .inr (.inl z)))]
theorem ef_poke1 : eg_find "ModuleLoaderLaw" x_IOB 3 [(0, 6, 9, 13), (0, 6, 12, 15)] 9 := ⟨by decide, by decide, Or.inl ⟨by decide +kernel, by decide +kernel, rfl⟩⟩
theorem ef_poke2 : eg_find "ModuleLoaderLaw" x_ISE 3 [(0, 6, 9, 13), (0, 6, 12, 15)] 12 := ⟨by decide, by decide, Or.inr ⟨x_IOB, by decide +kernel, by decide, by decide, by decide, Or.inl ⟨by decide +kernel, by decide +kernel, rfl⟩⟩⟩
theorem ef_symbol1 : eg_find "ModuleLoaderLaw" x_IAE 4 [(0, 7, 10, 21), (0, 7, 14, 15)] 10 := ⟨by decide, by decide, Or.inl ⟨by decide +kernel, by decide +kernel, rfl⟩⟩
theorem ef_symbol2 : eg_find "ModuleLoaderLaw" x_ISE 4 [(0, 7, 10, 21), (0, 7, 14, 15)] 14 := ⟨by decide, by decide, Or.inr ⟨x_IAE, by decide +kernel, by decide, by decide, by decide, Or.inl ⟨by decide +kernel, by decide +kernel, rfl⟩⟩⟩
theorem ef_load1 : eg_find "ModuleLoaderLaw" x_IAE 5 [(0, 10, 13, 21), (0, 10, 17, 15)] 13 := ⟨by decide, by decide, Or.inl ⟨by decide +kernel, by decide +kernel, rfl⟩⟩
theorem ef_load2 : eg_find "ModuleLoaderLaw" x_ISE 5 [(0, 10, 13, 21), (0, 10, 17, 15)] 17 := ⟨by decide, by decide, Or.inr ⟨x_IAE, by decide +kernel, by decide, by decide, by decide, Or.inl ⟨by decide +kernel, by decide +kernel, rfl⟩⟩⟩
theorem ef_unload1 : eg_find "ModuleLoaderLaw" x_IAE 3 [(0, 6, 9, 21), (0, 6, 12, 15)] 9 := ⟨by decide, by decide, Or.inl ⟨by decide +kernel, by decide +kernel, rfl⟩⟩
theorem ef_unload2 : eg_find "ModuleLoaderLaw" x_ISE 3 [(0, 6, 9, 21), (0, 6, 12, 15)] 12 := ⟨by decide, by decide, Or.inr ⟨x_IAE, by decide +kernel, by decide, by decide, by decide, Or.inl ⟨by decide +kernel, by decide +kernel, rfl⟩⟩⟩
theorem ef_call1 : eg_find "ModuleLoaderLaw" x_IAE 9 [(0, 14, 17, 21), (0, 14, 21, 15)] 17 := ⟨by decide, by decide, Or.inl ⟨by decide +kernel, by decide +kernel, rfl⟩⟩
theorem ef_call2 : eg_find "ModuleLoaderLaw" x_ISE 9 [(0, 14, 17, 21), (0, 14, 21, 15)] 21 := ⟨by decide, by decide, Or.inr ⟨x_IAE, by decide +kernel, by decide, by decide, by decide, Or.inl ⟨by decide +kernel, by decide +kernel, rfl⟩⟩⟩
theorem ef_peek1 : eg_find "ModuleLoaderLaw" x_IOB 4 [(0, 9, 12, 13)] 12 := ⟨by decide, by decide, Or.inl ⟨by decide +kernel, by decide +kernel, rfl⟩⟩
set_option maxRecDepth 100000 in
theorem c_LW_poke (l : Launch) (G : eg_G) (x : Nat) (r : Nat → Nat) (f : Nat → Int32) (a : Nat → Nat) (M : Nat → Int32) (P : Int32 → Bool) (R : Nat → Int32) (pc tr md : Int32) (hr0 : r 0 = a 0) (hse : f 2 = 0 ∨ f 2 = 1) (v w : Int32) : Ct l G y_LW_poke 8 2 12 [.ref x, .int v, .int w] [LO x r f, MA G a M P R pc tr md] (rF (some (.int (pokT f v))) (if pokT f v = 0 then [LO x r f, MA G a (putB M v.toNatClampNeg w 4) P R pc tr md] else [LO x r f, MA G a M P R pc tr md])) := by
  refine Ct.of cd_LW_poke (eg_catb rfl) (Nat.le_of_ble_eq_true rfl) ?_
  intro Γ hG
  have hR := hG.rm
  show Ex G Γ mu_LW_poke 0 [some (.ref x), some (.int v), some (.int w), none] [] [LO x r f, MA G a M P R pc tr md] 0 0
  refine ex_al d_LW_poke_0 rfl ?_
  refine ex_il d_LW_poke_1 rfl ?_
  refine ex_il d_LW_poke_2 rfl ?_
  refine ex_call [0, 1] hR (c_ML_poke l G x r f a M P R pc tr md hr0 hse v w) (eg_invV 0 d_LW_poke_3 cd_ML_poke cx_LW_7 rfl rfl List.mem_cons_self rfl rfl) cd_ML_poke rfl rfl (Nat.le_of_ble_eq_true rfl) (by decide) (by decide) (by decide) (by decide) (fun v2 S1 hK1 => ?_) (fun E S1 hK1 => ?_)
  · rcases hK1 with ⟨hk, h1, rfl⟩ | ⟨-, h1, -⟩ | ⟨-, h1, -⟩
    rotate_left
    · cases h1
    · cases h1
    cases h1
    refine ex_goto d_LW_poke_6 ?_
    refine ex_k d_LW_poke_15 ?_
    exact ex_iret [LO x r f, MA G a (putB M v.toNatClampNeg w 4) P R pc tr md] hG d_LW_poke_16 rfl rfl (by decide) (by decide) (eg_sub.of rfl) ⟨by rw [hk], by rw [if_pos hk]⟩
  · rcases hK1 with ⟨-, h1, -⟩ | ⟨hk, h1, rfl⟩ | ⟨hk, h1, rfl⟩
    · cases h1
    · cases h1
      refine ext_catch ef_poke1 (fun xx => ?_)
      refine ex_as d_LW_poke_9 (Nat.le_of_ble_eq_true rfl) ?_
      refine ex_k d_LW_poke_10 ?_
      exact ex_iret [LO x r f, MA G a M P R pc tr md] hG d_LW_poke_11 rfl rfl (by decide) (by decide) (eg_sub.of rfl) ⟨by rw [hk], by rw [if_neg (by rw [hk]; decide)]⟩
    · cases h1
      refine ext_catch ef_poke2 (fun xx => ?_)
      refine ex_as d_LW_poke_12 (Nat.le_of_ble_eq_true rfl) ?_
      refine ex_k d_LW_poke_13 ?_
      exact ex_iret [LO x r f, MA G a M P R pc tr md] hG d_LW_poke_14 rfl rfl (by decide) (by decide) (eg_sub.of rfl) ⟨by rw [hk], by rw [if_neg (by rw [hk]; decide)]⟩
  
set_option maxRecDepth 100000 in
theorem c_LW_peek (l : Launch) (G : eg_G) (x : Nat) (r : Nat → Nat) (f : Nat → Int32) (a : Nat → Nat) (M : Nat → Int32) (P : Int32 → Bool) (R : Nat → Int32) (pc tr md : Int32) (hr0 : r 0 = a 0) (hM : ∀ i, M i &&& 255 = M i) (ou : Nat) (z : Nat → Int64) (v : Int32) : Ct l G y_LW_peek 8 1 6 [.ref x, .int v, .ref ou] [OU G ou z, LO x r f, MA G a M P R pc tr md] (fun o S2 => ∃ z2, o = .inl (some (.int (pekT v))) ∧ S2 = [OU G ou z2, LO x r f, MA G a M P R pc tr md] ∧ (pekT v = 0 → z2 0 = (wdA M v.toNatClampNeg).toInt64)) := by
  refine Ct.of cd_LW_peek (eg_catb rfl) (Nat.le_of_ble_eq_true rfl) ?_
  intro Γ hG
  have hR := hG.rm
  show Ex G Γ mu_LW_peek 0 [some (.ref x), some (.int v), some (.ref ou), none] [] [OU G ou z, LO x r f, MA G a M P R pc tr md] 0 0
  refine ex_al d_LW_peek_0 rfl ?_
  refine ex_k d_LW_peek_1 ?_
  refine ex_al d_LW_peek_2 rfl ?_
  refine ex_il d_LW_peek_3 rfl ?_
  refine ex_cCF [1, 2] hR (c_ML_peek l G x r f a M P R pc tr md hr0 hM v) (eg_invV 1 d_LW_peek_4 cd_ML_peek cx_LW_34 rfl rfl List.mem_cons_self rfl rfl) cd_ML_peek rfl rfl (Nat.le_of_ble_eq_true rfl) (by decide) (by decide) (by decide) (by decide) rfl (fun hc => ?_) (fun hc => ?_)
  · refine ex_eqS [OU G ou z, LO x r f, MA G a M P R pc tr md] rfl ?_
    refine ex_i2l d_LW_peek_7 ?_
    refine ex_last1 0 d_LW_peek_8 rfl (ix_e (j := 0) (by decide)) ?_
    refine ex_goto d_LW_peek_9 ?_
    refine ex_k d_LW_peek_15 ?_
    exact ex_iret [OU G ou (vp_updL z 0 (wdA M v.toNatClampNeg).toInt64), LO x r f, MA G a M P R pc tr md] hG d_LW_peek_16 rfl rfl (by decide) (by decide) (eg_sub.of rfl) ⟨_, by rw [pekT, if_pos hc], rfl, fun _ => pk_uLs⟩
  · refine ext_catch ef_peek1 (fun xx => ?_)
    refine ex_as d_LW_peek_12 (Nat.le_of_ble_eq_true rfl) ?_
    refine ex_k d_LW_peek_13 ?_
    exact ex_iret [OU G ou z, LO x r f, MA G a M P R pc tr md] hG d_LW_peek_14 rfl rfl (by decide) (by decide) (eg_sub.of rfl) ⟨z, by rw [pekT, if_neg hc], rfl, fun w => by rw [pekT, if_neg hc] at w; exact absurd w (by decide)⟩
  
set_option maxRecDepth 100000 in
theorem c_LW_symbol (l : Launch) (G : eg_G) (x : Nat) (r : Nat → Nat) (f : Nat → Int32) (pl gn n : Nat) (marks : Int32) (F : Nat → Option Nat) (L : List sE) (PP : va_W) (hT : TB F gn L) (hPS : ∀ e ∈ L, syC e ∈ PP) (hN : (L.map (fun e => e.2.1)).Nodup) (hn : L.length = n) (hn2 : n ≤ 40) (v w u : Int32) : Ct l G y_LW_symbol 8 3 20 [.ref x, .int v, .int w, .int u] [LO x r f, SO (r 1) pl gn (nI n) marks, SPl G pl F, SG gn, PP] (fun o S2 => o = .inl (some (.int (syK L n v))) ∧ ((syK L n v = 0 ∧ ∃ e F2 m2, S2 = [LO x r f, SO (r 1) pl gn (nI n + 1) m2, SPl G pl F2, SG gn, (PP ++ [syC (e, v, w, u, none)])] ∧ TB F2 gn (L ++ [(e, v, w, u, none)])) ∨ (¬ syK L n v = 0 ∧ S2 = [LO x r f, SO (r 1) pl gn (nI n) marks, SPl G pl F, SG gn, PP]))) := by
  refine Ct.of cd_LW_symbol (eg_catb rfl) (Nat.le_of_ble_eq_true rfl) ?_
  intro Γ hG
  have hR := hG.rm
  show Ex G Γ mu_LW_symbol 0 [some (.ref x), some (.int v), some (.int w), some (.int u), none] [] [LO x r f, SO (r 1) pl gn (nI n) marks, SPl G pl F, SG gn, PP] 0 0
  refine ex_al d_LW_symbol_0 rfl ?_
  refine ex_il d_LW_symbol_1 rfl ?_
  refine ex_il d_LW_symbol_2 rfl ?_
  refine ex_il d_LW_symbol_3 rfl ?_
  refine ex_call [0, 1, 2, 3, 4] hR (c_ML_symbol l G x r f pl gn n marks F L PP hT hPS hN hn hn2 v w u) (eg_invV 0 d_LW_symbol_4 cd_ML_symbol cx_LW_17 rfl rfl List.mem_cons_self rfl rfl) cd_ML_symbol rfl rfl (Nat.le_of_ble_eq_true rfl) (by decide) (by decide) (by decide) (by decide) (fun v2 S1 hK1 => ?_) (fun E S1 hK1 => ?_)
  · rcases hK1 with ⟨hk, h1, e, F2, m2, rfl, hT2⟩ | ⟨-, h1, -⟩ | ⟨-, h1, -⟩
    rotate_left
    · cases h1
    · cases h1
    cases h1
    refine ex_goto d_LW_symbol_7 ?_
    refine ex_k d_LW_symbol_18 ?_
    exact ex_iret [LO x r f, SO (r 1) pl gn (nI n + 1) m2, SPl G pl F2, SG gn, (PP ++ [syC (e, v, w, u, none)])] hG d_LW_symbol_19 rfl rfl (by decide) (by decide) (eg_sub.of rfl) ⟨by rw [hk], Or.inl ⟨hk, e, F2, m2, rfl, hT2⟩⟩
  · rcases hK1 with ⟨-, h1, -⟩ | ⟨hk, h1, rfl⟩ | ⟨hk, h1, rfl⟩
    · cases h1
    · cases h1
      refine ext_catch ef_symbol1 (fun xx => ?_)
      refine ex_as d_LW_symbol_10 (Nat.le_of_ble_eq_true rfl) ?_
      refine ex_k d_LW_symbol_12 ?_
      exact ex_iret [LO x r f, SO (r 1) pl gn (nI n) marks, SPl G pl F, SG gn, PP] hG d_LW_symbol_13 rfl rfl (by decide) (by decide) (eg_sub.of rfl) ⟨by rw [hk], Or.inr ⟨by rw [hk]; decide, rfl⟩⟩
    · cases h1
      refine ext_catch ef_symbol2 (fun xx => ?_)
      refine ex_as d_LW_symbol_14 (Nat.le_of_ble_eq_true rfl) ?_
      refine ex_k d_LW_symbol_16 ?_
      exact ex_iret [LO x r f, SO (r 1) pl gn (nI n) marks, SPl G pl F, SG gn, PP] hG d_LW_symbol_17 rfl rfl (by decide) (by decide) (eg_sub.of rfl) ⟨by rw [hk], Or.inr ⟨by rw [hk]; decide, rfl⟩⟩
  
set_option maxRecDepth 100000 in
theorem c_LW_unload (l : Launch) (G : eg_G) (x : Nat) (r a : Nat → Nat) (f : Nat → Int32) (g : Nat → Nat → Int32) (pc tr md : Int32) (pl gn n t : Nat) (marks : Int32) (F : Nat → Option Nat) (sa A : Nat → Nat) (PP : va_W) (b k : Nat) (y : Int32) (q : va_W) (mx : Nat → Nat) (Fr : Nat → Option Nat) (T : Nat → Int32) (hr0 : r 0 = a 0) (hI : RI G f g n t sa A k mx Fr PP T) (hT : TB F gn (SL g sa A n)) (hw : ALw G b k (lsF (fun i => A (mx i)) k) q) (v fu : Int32) : Ct l G y_LW_unload 15 6010 36200 [.ref x, .int v, .int fu] [LO x r f, MA G a (g 1) (gdB f g) (g 22) pc tr md, SO (r 1) pl gn (nI n) marks, SPl G pl F, SG gn, PP, ALo (r 2) b k y, q, RW G (r 3) Fr, TP G (r 4) T] (fun o S2 => o = .inl (some (.int ((ulR f g n v fu).1 0))) ∧ CR G x (ulR f g n v fu).1 (ulR f g n v fu).2 S2) := by
  refine Ct.of cd_LW_unload (eg_catb rfl) (Nat.le_of_ble_eq_true rfl) ?_
  intro Γ hG
  have hR := hG.rm
  show Ex G Γ mu_LW_unload 0 [some (.ref x), some (.int v), some (.int fu), none] [] [LO x r f, MA G a (g 1) (gdB f g) (g 22) pc tr md, SO (r 1) pl gn (nI n) marks, SPl G pl F, SG gn, PP, ALo (r 2) b k y, q, RW G (r 3) Fr, TP G (r 4) T] 0 0
  refine ex_al d_LW_unload_0 rfl ?_
  refine ex_il d_LW_unload_1 rfl ?_
  refine ex_il d_LW_unload_2 rfl ?_
  refine ex_call [0, 1, 2, 3, 4, 5, 6, 7, 8, 9] hR (c_ML_unload l G x r a f g pc tr md pl gn n t marks F sa A PP b k y q mx Fr T hr0 hI hT hw v fu) (eg_invV 0 d_LW_unload_3 cd_ML_unload cx_LW_27 rfl rfl List.mem_cons_self rfl rfl) cd_ML_unload rfl rfl (Nat.le_of_ble_eq_true rfl) (by decide) (by decide) (by decide) (by decide) (fun v2 S1 hK1 => ?_) (fun E S1 hK1 => ?_)
  · obtain ⟨hcr, ⟨hk, h1⟩ | ⟨-, h1⟩ | ⟨-, h1⟩⟩ := hK1
    rotate_left
    · cases h1
    · cases h1
    cases h1
    obtain ⟨r', a', pc', tr', md', pl', gn', n', t', marks', F', sa', A', PP', b', k', y', q', mx', Fr', T', rfl, hr', hI', hT', hw'⟩ := hcr
    refine ex_goto d_LW_unload_6 ?_
    refine ex_k d_LW_unload_15 ?_
    exact ex_iret (CW G x r' (ulR f g n v fu).1 a' (ulR f g n v fu).2 pc' tr' md' pl' gn' n' marks' F' PP' b' k' y' q' Fr' T') hG d_LW_unload_16 rfl rfl (by decide) (by decide) (eg_sub.of rfl) ⟨by rw [hk], ⟨r', a', pc', tr', md', pl', gn', n', t', marks', F', sa', A', PP', b', k', y', q', mx', Fr', T', rfl, hr', hI', hT', hw'⟩⟩
  · obtain ⟨hcr, ⟨-, h1⟩ | ⟨hk, h1⟩ | ⟨hk, h1⟩⟩ := hK1
    · cases h1
    · cases h1
      obtain ⟨r', a', pc', tr', md', pl', gn', n', t', marks', F', sa', A', PP', b', k', y', q', mx', Fr', T', rfl, hr', hI', hT', hw'⟩ := hcr
      refine ext_catch ef_unload1 (fun xx => ?_)
      refine ex_as d_LW_unload_9 (Nat.le_of_ble_eq_true rfl) ?_
      refine ex_k d_LW_unload_10 ?_
      exact ex_iret (CW G x r' (ulR f g n v fu).1 a' (ulR f g n v fu).2 pc' tr' md' pl' gn' n' marks' F' PP' b' k' y' q' Fr' T') hG d_LW_unload_11 rfl rfl (by decide) (by decide) (eg_sub.of rfl) ⟨by rw [hk], ⟨r', a', pc', tr', md', pl', gn', n', t', marks', F', sa', A', PP', b', k', y', q', mx', Fr', T', rfl, hr', hI', hT', hw'⟩⟩
    · cases h1
      obtain ⟨r', a', pc', tr', md', pl', gn', n', t', marks', F', sa', A', PP', b', k', y', q', mx', Fr', T', rfl, hr', hI', hT', hw'⟩ := hcr
      refine ext_catch ef_unload2 (fun xx => ?_)
      refine ex_as d_LW_unload_12 (Nat.le_of_ble_eq_true rfl) ?_
      refine ex_k d_LW_unload_13 ?_
      exact ex_iret (CW G x r' (ulR f g n v fu).1 a' (ulR f g n v fu).2 pc' tr' md' pl' gn' n' marks' F' PP' b' k' y' q' Fr' T') hG d_LW_unload_14 rfl rfl (by decide) (by decide) (eg_sub.of rfl) ⟨by rw [hk], ⟨r', a', pc', tr', md', pl', gn', n', t', marks', F', sa', A', PP', b', k', y', q', mx', Fr', T', rfl, hr', hI', hT', hw'⟩⟩
  
set_option maxRecDepth 100000 in
theorem c_LW_load (l : Launch) (G : eg_G) (x : Nat) (r a : Nat → Nat) (f : Nat → Int32) (g : Nat → Nat → Int32) (pc tr md : Int32) (pl gn n t : Nat) (marks : Int32) (F : Nat → Option Nat) (sa A : Nat → Nat) (PP : va_W) (b k : Nat) (y : Int32) (q : va_W) (mx : Nat → Nat) (Fr : Nat → Option Nat) (T : Nat → Int32) (hr0 : r 0 = a 0) (hI : RI G f g n t sa A k mx Fr PP T) (hT : TB F gn (SL g sa A n)) (hw : ALw G b k (lsF (fun i => A (mx i)) k) q) (v fu : Int32) (ou : Nat) (z : Nat → Int64) : Ct l G y_LW_load 15 6600 45000 [.ref x, .int v, .int fu, .ref ou] [OU G ou z, LO x r f, MA G a (g 1) (gdB f g) (g 22) pc tr md, SO (r 1) pl gn (nI n) marks, SPl G pl F, SG gn, PP, ALo (r 2) b k y, q, RW G (r 3) Fr, TP G (r 4) T] (fun o S2 => o = .inl (some (.int ((ldR f g n t v fu).2.1 0))) ∧ ∃ z2 S', CR G x (ldR f g n t v fu).2.1 (ldR f g n t v fu).2.2 S' ∧ S2 = OU G ou z2 :: S' ∧ (((ldR f g n t v fu).2.1 0) = 0 → z2 0 = ((ldR f g n t v fu).1).toInt64)) := by
  refine Ct.of cd_LW_load (eg_catb rfl) (Nat.le_of_ble_eq_true rfl) ?_
  intro Γ hG
  have hR := hG.rm
  show Ex G Γ mu_LW_load 0 [some (.ref x), some (.int v), some (.int fu), some (.ref ou), none] [] [OU G ou z, LO x r f, MA G a (g 1) (gdB f g) (g 22) pc tr md, SO (r 1) pl gn (nI n) marks, SPl G pl F, SG gn, PP, ALo (r 2) b k y, q, RW G (r 3) Fr, TP G (r 4) T] 0 0
  refine ex_al d_LW_load_0 rfl ?_
  refine ex_k d_LW_load_1 ?_
  refine ex_al d_LW_load_2 rfl ?_
  refine ex_il d_LW_load_3 rfl ?_
  refine ex_il d_LW_load_4 rfl ?_
  refine ex_call [1, 2, 3, 4, 5, 6, 7, 8, 9, 10] hR (c_ML_load l G x r a f g pc tr md pl gn n t marks F sa A PP b k y q mx Fr T hr0 hI hT hw v fu) (eg_invV 1 d_LW_load_5 cd_ML_load cx_LW_23 rfl rfl List.mem_cons_self rfl rfl) cd_ML_load rfl rfl (Nat.le_of_ble_eq_true rfl) (by decide) (by decide) (by decide) (by decide) (fun v2 S1 hK1 => ?_) (fun E S1 hK1 => ?_)
  · obtain ⟨hcr, ⟨hk, h1⟩ | ⟨-, h1⟩ | ⟨-, h1⟩⟩ := hK1
    rotate_left
    · cases h1
    · cases h1
    cases h1
    obtain ⟨r', a', pc', tr', md', pl', gn', n', t', marks', F', sa', A', PP', b', k', y', q', mx', Fr', T', rfl, hr', hI', hT', hw'⟩ := hcr
    refine ex_i2l d_LW_load_8 ?_
    refine ex_last1 0 d_LW_load_9 rfl (ix_e (j := 0) (by decide)) ?_
    refine ex_goto d_LW_load_10 ?_
    refine ex_k d_LW_load_21 ?_
    exact ex_iret (OU G ou (vp_updL z 0 ((ldR f g n t v fu).1).toInt64) :: (CW G x r' (ldR f g n t v fu).2.1 a' (ldR f g n t v fu).2.2 pc' tr' md' pl' gn' n' marks' F' PP' b' k' y' q' Fr' T')) hG d_LW_load_22 rfl rfl (by decide) (by decide) (eg_sub.of rfl) ⟨by rw [hk], _, _, ⟨r', a', pc', tr', md', pl', gn', n', t', marks', F', sa', A', PP', b', k', y', q', mx', Fr', T', rfl, hr', hI', hT', hw'⟩, rfl, fun _ => pk_uLs⟩
  · obtain ⟨hcr, ⟨-, h1⟩ | ⟨hk, h1⟩ | ⟨hk, h1⟩⟩ := hK1
    · cases h1
    · cases h1
      obtain ⟨r', a', pc', tr', md', pl', gn', n', t', marks', F', sa', A', PP', b', k', y', q', mx', Fr', T', rfl, hr', hI', hT', hw'⟩ := hcr
      refine ext_catch ef_load1 (fun xx => ?_)
      refine ex_as d_LW_load_13 (Nat.le_of_ble_eq_true rfl) ?_
      refine ex_k d_LW_load_15 ?_
      exact ex_iret (OU G ou z :: (CW G x r' (ldR f g n t v fu).2.1 a' (ldR f g n t v fu).2.2 pc' tr' md' pl' gn' n' marks' F' PP' b' k' y' q' Fr' T')) hG d_LW_load_16 rfl rfl (by decide) (by decide) (eg_sub.of rfl) ⟨by rw [hk], z, _, ⟨r', a', pc', tr', md', pl', gn', n', t', marks', F', sa', A', PP', b', k', y', q', mx', Fr', T', rfl, hr', hI', hT', hw'⟩, rfl, fun w => absurd (hk.symm.trans w) (by decide)⟩
    · cases h1
      obtain ⟨r', a', pc', tr', md', pl', gn', n', t', marks', F', sa', A', PP', b', k', y', q', mx', Fr', T', rfl, hr', hI', hT', hw'⟩ := hcr
      refine ext_catch ef_load2 (fun xx => ?_)
      refine ex_as d_LW_load_17 (Nat.le_of_ble_eq_true rfl) ?_
      refine ex_k d_LW_load_19 ?_
      exact ex_iret (OU G ou z :: (CW G x r' (ldR f g n t v fu).2.1 a' (ldR f g n t v fu).2.2 pc' tr' md' pl' gn' n' marks' F' PP' b' k' y' q' Fr' T')) hG d_LW_load_20 rfl rfl (by decide) (by decide) (eg_sub.of rfl) ⟨by rw [hk], z, _, ⟨r', a', pc', tr', md', pl', gn', n', t', marks', F', sa', A', PP', b', k', y', q', mx', Fr', T', rfl, hr', hI', hT', hw'⟩, rfl, fun w => absurd (hk.symm.trans w) (by decide)⟩
  
set_option maxRecDepth 100000 in
theorem c_LW_call (l : Launch) (G : eg_G) (x : Nat) (r a : Nat → Nat) (f : Nat → Int32) (g : Nat → Nat → Int32) (pc tr md : Int32) (pl gn n t : Nat) (marks : Int32) (F : Nat → Option Nat) (sa A : Nat → Nat) (PP : va_W) (b k : Nat) (y : Int32) (q : va_W) (mx : Nat → Nat) (Fr : Nat → Option Nat) (T : Nat → Int32) (hr0 : r 0 = a 0) (hI : RI G f g n t sa A k mx Fr PP T) (hT : TB F gn (SL g sa A n)) (hw : ALw G b k (lsF (fun i => A (mx i)) k) q) (v u w fu : Int32) (ou : Nat) (z : Nat → Int64) : Ct l G y_LW_call 15 6010 36100 [.ref x, .int v, .int u, .int w, .int fu, .ref ou] [OU G ou z, LO x r f, MA G a (g 1) (gdB f g) (g 22) pc tr md, SO (r 1) pl gn (nI n) marks, SPl G pl F, SG gn, PP, ALo (r 2) b k y, q, RW G (r 3) Fr, TP G (r 4) T] (fun o S2 => o = .inl (some (.int ((clR f g n v u w fu).2.1 0))) ∧ ∃ z2 S', CR G x (clR f g n v u w fu).2.1 (clR f g n v u w fu).2.2 S' ∧ S2 = OU G ou z2 :: S' ∧ (((clR f g n v u w fu).2.1 0) = 0 → z2 0 = ((clR f g n v u w fu).1).toInt64)) := by
  refine Ct.of cd_LW_call (eg_catb rfl) (Nat.le_of_ble_eq_true rfl) ?_
  intro Γ hG
  have hR := hG.rm
  show Ex G Γ mu_LW_call 0 [some (.ref x), some (.int v), some (.int u), some (.int w), some (.int fu), some (.ref ou), none] [] [OU G ou z, LO x r f, MA G a (g 1) (gdB f g) (g 22) pc tr md, SO (r 1) pl gn (nI n) marks, SPl G pl F, SG gn, PP, ALo (r 2) b k y, q, RW G (r 3) Fr, TP G (r 4) T] 0 0
  refine ex_al d_LW_call_0 rfl ?_
  refine ex_k d_LW_call_2 ?_
  refine ex_al d_LW_call_3 rfl ?_
  refine ex_il d_LW_call_4 rfl ?_
  refine ex_il d_LW_call_5 rfl ?_
  refine ex_il d_LW_call_6 rfl ?_
  refine ex_il d_LW_call_7 rfl ?_
  refine ex_call [1, 2, 3, 4, 5, 6, 7, 8, 9, 10] hR (c_ML_call l G x r a f g pc tr md pl gn n t marks F sa A PP b k y q mx Fr T hr0 hI hT hw v u w fu) (eg_invV 1 d_LW_call_9 cd_ML_call cx_LW_30 rfl rfl List.mem_cons_self rfl rfl) cd_ML_call rfl rfl (Nat.le_of_ble_eq_true rfl) (by decide) (by decide) (by decide) (by decide) (fun v2 S1 hK1 => ?_) (fun E S1 hK1 => ?_)
  · obtain ⟨hcr, ⟨hk, h1⟩ | ⟨-, h1⟩ | ⟨-, h1⟩⟩ := hK1
    rotate_left
    · cases h1
    · cases h1
    cases h1
    obtain ⟨r', a', pc', tr', md', pl', gn', n', t', marks', F', sa', A', PP', b', k', y', q', mx', Fr', T', rfl, hr', hI', hT', hw'⟩ := hcr
    refine ex_i2l d_LW_call_12 ?_
    refine ex_last1 0 d_LW_call_13 rfl (ix_e (j := 0) (by decide)) ?_
    refine ex_goto d_LW_call_14 ?_
    refine ex_k d_LW_call_25 ?_
    exact ex_iret (OU G ou (vp_updL z 0 ((clR f g n v u w fu).1).toInt64) :: (CW G x r' (clR f g n v u w fu).2.1 a' (clR f g n v u w fu).2.2 pc' tr' md' pl' gn' n' marks' F' PP' b' k' y' q' Fr' T')) hG d_LW_call_26 rfl rfl (by decide) (by decide) (eg_sub.of rfl) ⟨by rw [hk], _, _, ⟨r', a', pc', tr', md', pl', gn', n', t', marks', F', sa', A', PP', b', k', y', q', mx', Fr', T', rfl, hr', hI', hT', hw'⟩, rfl, fun _ => pk_uLs⟩
  · obtain ⟨hcr, ⟨-, h1⟩ | ⟨hk, h1⟩ | ⟨hk, h1⟩⟩ := hK1
    · cases h1
    · cases h1
      obtain ⟨r', a', pc', tr', md', pl', gn', n', t', marks', F', sa', A', PP', b', k', y', q', mx', Fr', T', rfl, hr', hI', hT', hw'⟩ := hcr
      refine ext_catch ef_call1 (fun xx => ?_)
      refine ex_as d_LW_call_17 (Nat.le_of_ble_eq_true rfl) ?_
      refine ex_k d_LW_call_19 ?_
      exact ex_iret (OU G ou z :: (CW G x r' (clR f g n v u w fu).2.1 a' (clR f g n v u w fu).2.2 pc' tr' md' pl' gn' n' marks' F' PP' b' k' y' q' Fr' T')) hG d_LW_call_20 rfl rfl (by decide) (by decide) (eg_sub.of rfl) ⟨by rw [hk], z, _, ⟨r', a', pc', tr', md', pl', gn', n', t', marks', F', sa', A', PP', b', k', y', q', mx', Fr', T', rfl, hr', hI', hT', hw'⟩, rfl, fun w => absurd (hk.symm.trans w) (by decide)⟩
    · cases h1
      obtain ⟨r', a', pc', tr', md', pl', gn', n', t', marks', F', sa', A', PP', b', k', y', q', mx', Fr', T', rfl, hr', hI', hT', hw'⟩ := hcr
      refine ext_catch ef_call2 (fun xx => ?_)
      refine ex_as d_LW_call_21 (Nat.le_of_ble_eq_true rfl) ?_
      refine ex_k d_LW_call_23 ?_
      exact ex_iret (OU G ou z :: (CW G x r' (clR f g n v u w fu).2.1 a' (clR f g n v u w fu).2.2 pc' tr' md' pl' gn' n' marks' F' PP' b' k' y' q' Fr' T')) hG d_LW_call_24 rfl rfl (by decide) (by decide) (eg_sub.of rfl) ⟨by rw [hk], z, _, ⟨r', a', pc', tr', md', pl', gn', n', t', marks', F', sa', A', PP', b', k', y', q', mx', Fr', T', rfl, hr', hI', hT', hw'⟩, rfl, fun w => absurd (hk.symm.trans w) (by decide)⟩
  
