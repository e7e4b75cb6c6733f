/-! THE READER, 8: read and isFile -/
theorem mm1 {a b c R : va_W} : ∀ z, z ∈ a ++ (b ++ c) → z ∈ a ++ (b ++ (c ++ R)) := fun z h => by
  simp only [List.mem_append] at h ⊢
  rcases h with h | h | h
  · exact Or.inl h
  · exact Or.inr (Or.inl h)
  · exact Or.inr (Or.inr (Or.inl h))
theorem mm2 {P x y w Q : va_W} (h : ∀ z, z ∈ P → z ∈ Q) : ∀ z, z ∈ P → z ∈ x ++ (y ++ (w ++ Q)) := fun z hz => List.mem_append_right _ (List.mem_append_right _ (List.mem_append_right _ (h z hz)))
set_option maxRecDepth 100000 in
set_option maxHeartbeats 4000000 in
theorem c_Re_read (l : Launch) (G : eg_G) (ro tp t la lb lc : Nat) (T : Nat → Int32) (hTb : ∀ i, T i &&& 255 = T i) (ht : t ≤ 1200) : Ct l G y_Re_read 11 540 7200 [.ref ro] [RO ro tp t 0 .null 0 0 0 la lb lc, TP G tp T, ALo la G.2.2.2.1 0 0, ALo lb G.2.2.2.1 0 0, ALo lc G.2.2.2.1 0 0] (fun o S2 => (filB T t = true ∧ o = .inl none ∧ ∃ ia Q, S2 = [RO ro tp t t (.ref ia) (wdA T 20) (wdA T 24) (wdA T 28) la lb lc, TP G tp T, IMG G ia (fL T / 4) (imgF T (fL T / 4)), Q] ∧ FQ G Q la lb lc T) ∨ (¬ filB T t = true ∧ o = .inr x_IAE ∧ S2 = [[], TP G tp T, [], [], []])) := by
  refine Ct.of cd_Re_read (eg_catb rfl) (Nat.le_of_ble_eq_true rfl) ?_
  intro Γ hG
  have hR := hG.rm
  show Ex G Γ mu_Re_read 0 [some (.ref ro), none, none, none, none, none, none, none] [] [RO ro tp t 0 .null 0 0 0 la lb lc, TP G tp T, ALo la G.2.2.2.1 0 0, ALo lb G.2.2.2.1 0 0, ALo lc G.2.2.2.1 0 0] 0 0
  have J271 : ∀ (ia : Nat) (b1 : Nat) (x1 : Int32) (q1 : va_W) (a1 : Nat → Nat) (b2 : Nat) (x2 : Int32) (q2 : va_W) (a2 : Nat → Nat) (b3 : Nat) (x3 : Int32) (q3 : va_W) (a3 : Nat → Nat), h0B T t = true → h1B T = true → h2B T = true → (plA (fL T) (fM T) (fE T) (fP T)) ≤ t → rall (imP T) (fM T) = true → rall (exP T) (fE T) = true → rall (plP T) (fP T) = true → ALw G b1 (fM T) (lsF a1 (fM T)) q1 → ALw G b2 (fE T) (lsF a2 (fE T)) q2 → ALw G b3 (fP T) (lsF a3 (fP T)) q3 → Ex G Γ mu_Re_read 271 [some (.ref ro), some (.int (wdA T 4)), some (.int (wdA T 8)), some (.int (wdA T 12)), some (.int (wdA T 16)), some (.int (nI (fP T))), none, none] [] [RO ro tp t (plA (fL T) (fM T) (fE T) (fP T)) (.ref ia) (wdA T 20) (wdA T 24) (wdA T 28) la lb lc, TP G tp T, IMG G ia (fL T / 4) (imgF T (fL T / 4)), ALo la b1 (fM T) x1, q1, PLs 12 (imV T (fL T)) a1 (fM T), ALo lb b2 (fE T) x2, q2, PLs 13 (exW T (fL T) (fM T)) a2 (fE T), ALo lc b3 (fP T) x3, q3, PLs 14 (plW T (fL T) (fM T) (fE T)) a3 (fP T)] 535 7080 := by
    intro ia b1 x1 q1 a1 b2 x2 q2 a2 b3 x3 q3 a3 H0 H1 H2 hpt him hex hpl hw1 hw2 hw3
    refine ex_al d_Re_read_271 rfl ?_
    refine ex_al d_Re_read_272 rfl ?_
    refine ex_get1 0 fl_Re_35 d_Re_read_273 rfl rfl ?_
    refine ex_al d_Re_read_276 rfl ?_
    refine ex_get1 0 fl_Re_28 d_Re_read_277 rfl rfl ?_
    refine ex_icmp_ne d_Re_read_280 (fun z => ?_) (fun z => ?_)
    · refine ex_k d_Re_read_287 ?_
      refine ex_cCV [] hR (c_Re_need l G ro false) (eg_invV 0 d_Re_read_288 cd_Re_need cx_Re_38 rfl rfl List.mem_cons_self rfl rfl) cd_Re_need rfl rfl (Nat.le_of_ble_eq_true rfl) (by decide) (by decide) (by decide) (by decide) rfl (fun hb => ?_) (fun hb => ?_)
      rotate_left
      · exact ext_leave [[], TP G tp T, [], [], []] hG (fun _ h => absurd h List.not_mem_nil) (by first | decide | omega) (by first | decide | omega) (eg_dr5 rfl rfl) (Or.inr ⟨fun y => z (by rw [fil_t y ht]), rfl, rfl⟩)
      exact absurd hb (by decide)
    refine ex_k d_Re_read_283 ?_
    refine ex_goto d_Re_read_284 ?_
    refine ex_cCV [] hR (c_Re_need l G ro true) (eg_invV 0 d_Re_read_288 cd_Re_need cx_Re_38 rfl rfl List.mem_cons_self rfl rfl) cd_Re_need rfl rfl (Nat.le_of_ble_eq_true rfl) (by decide) (by decide) (by decide) (by decide) rfl (fun hb => ?_) (fun hb => ?_)
    rotate_left
    · exact absurd rfl hb
    refine ex_eqS [RO ro tp t (plA (fL T) (fM T) (fE T) (fP T)) (.ref ia) (wdA T 20) (wdA T 24) (wdA T 28) la lb lc, TP G tp T, IMG G ia (fL T / 4) (imgF T (fL T / 4)), ALo la b1 (fM T) x1, q1, PLs 12 (imV T (fL T)) a1 (fM T), ALo lb b2 (fE T) x2, q2, PLs 13 (exW T (fL T) (fM T)) a2 (fE T), ALo lc b3 (fP T) x3, q3, PLs 14 (plW T (fL T) (fM T) (fE T)) a3 (fP T)] rfl ?_
    have et : nI t = szI T := by rw [szI_of H1]; exact z.symm
    have hfil : filB T t = true := by rw [filB_e H0 H1 H2 et, him, hex, hpl]; rfl
    have zt := fil_t hfil ht
    exact ex_vret [RO ro tp t t (.ref ia) (wdA T 20) (wdA T 24) (wdA T 28) la lb lc, TP G tp T, IMG G ia (fL T / 4) (imgF T (fL T / 4)), ALo la b1 (fM T) x1 ++ (q1 ++ (PLs 12 (imV T (fL T)) a1 (fM T) ++ (ALo lb b2 (fE T) x2 ++ (q2 ++ (PLs 13 (exW T (fL T) (fM T)) a2 (fE T) ++ (ALo lc b3 (fP T) x3 ++ (q3 ++ PLs 14 (plW T (fL T) (fM T) (fE T)) a3 (fP T))))))))] hG d_Re_read_291 rfl (by decide) (by decide) (eg_sub.of (by rw [← zt]; simp)) (Or.inl ⟨hfil, rfl, ia, _, rfl, FLs.of hw1 mm1, FLs.of hw2 (mm2 mm1), FLs.of hw3 (mm2 (mm2 (fun z h => h)))⟩)
  have J212 : ∀ (ia : Nat) (b1 : Nat) (x1 : Int32) (q1 : va_W) (a1 : Nat → Nat) (b2 : Nat) (x2 : Int32) (q2 : va_W) (a2 : Nat → Nat), h0B T t = true → h1B T = true → h2B T = true → rall (imP T) (fM T) = true → rall (exP T) (fE T) = true → ALw G b1 (fM T) (lsF a1 (fM T)) q1 → ALw G b2 (fE T) (lsF a2 (fE T)) q2 → ∀ j, j ≤ fP T → (plA (fL T) (fM T) (fE T) j) ≤ t → rall (plP T) j = true → ∀ (b3 : Nat) (x3 : Int32) (q3 : va_W) (a3 : Nat → Nat), ALw G b3 j (lsF a3 j) q3 → Ex G Γ mu_Re_read 212 [some (.ref ro), some (.int (wdA T 4)), some (.int (wdA T 8)), some (.int (wdA T 12)), some (.int (wdA T 16)), some (.int (nI j)), none, none] [] [RO ro tp t (plA (fL T) (fM T) (fE T) j) (.ref ia) (wdA T 20) (wdA T 24) (wdA T 28) la lb lc, TP G tp T, IMG G ia (fL T / 4) (imgF T (fL T / 4)), ALo la b1 (fM T) x1, q1, PLs 12 (imV T (fL T)) a1 (fM T), ALo lb b2 (fE T) x2, q2, PLs 13 (exW T (fL T) (fM T)) a2 (fE T), ALo lc b3 j x3, q3, PLs 14 (plW T (fL T) (fM T) (fE T)) a3 j] (319 + 9 * j) (3576 + 146 * j) := by
    intro ia b1 x1 q1 a1 b2 x2 q2 a2 H0 H1 H2 him hex hw1 hw2
    obtain ⟨⟨eL, hL1, hL2, hL4⟩, ⟨eM, hM⟩, ⟨eE, hE⟩, ⟨eP, hP⟩⟩ := h1B_of H1
    have eN : wdA T 4 = nI (4 * (fL T / 4)) := by rw [eL]; congr 1; omega
    refine eg_down (fP T) (fun j hj ih hpj hg b3 x3 q3 a3 hw3 => ?_)
    refine ex_il d_Re_read_212 rfl ?_
    refine ex_il d_Re_read_214 rfl ?_
    refine ex_icmp_ge d_Re_read_216 (fun z => ?_) (fun z => ?_)
    · have z := le_n (a := fP T) z eP
      obtain rfl : j = fP T := by omega
      refine ex_wide (n' := 535) (k' := 7080) (by omega) (by omega) ?_
      exact J271 ia b1 x1 q1 a1 b2 x2 q2 a2 b3 x3 q3 a3 H0 H1 H2 hpj him hex hg hw1 hw2 hw3
    have hlt := lt_n (a := fP T) z eP
    have hpe : filB T t = true → plA (fL T) (fM T) (fE T) j + 16 ≤ t := fun y => by
      rw [fil_t y ht]
      unfold plA
      omega
    refine ex_al d_Re_read_219 rfl ?_
    refine ex_k d_Re_read_220 ?_
    refine ex_k d_Re_read_221 ?_
    refine ex_cCF [0, 1] hR (c_Re_within l G ro tp t (plA (fL T) (fM T) (fE T) j) (.ref ia) (wdA T 20) (wdA T 24) (wdA T 28) la lb lc T hTb ht hpj 0 5) (eg_invV 0 d_Re_read_222 cd_Re_within cx_Re_55 rfl rfl List.mem_cons_self rfl rfl) cd_Re_within rfl rfl (Nat.le_of_ble_eq_true rfl) (by decide) (by decide) (by omega) (by omega) rfl (fun hc1 => ?_) (fun hc1 => ?_)
    rotate_left
    · exact ext_leave [[], TP G tp T, [], [], []] hG (fun _ h => absurd h List.not_mem_nil) (by first | decide | omega) (by first | decide | omega) (eg_dr5 rfl rfl) (Or.inr ⟨fun y => hc1 ⟨by have := hpe y; omega, (fil_pl y hlt).1⟩, rfl, rfl⟩)
    refine ex_eqS [RO ro tp t ((plA (fL T) (fM T) (fE T) j) + 4) (.ref ia) (wdA T 20) (wdA T 24) (wdA T 28) la lb lc, TP G tp T, IMG G ia (fL T / 4) (imgF T (fL T / 4)), ALo la b1 (fM T) x1, q1, PLs 12 (imV T (fL T)) a1 (fM T), ALo lb b2 (fE T) x2, q2, PLs 13 (exW T (fL T) (fM T)) a2 (fE T), ALo lc b3 j x3, q3, PLs 14 (plW T (fL T) (fM T) (fE T)) a3 j] rfl ?_
    refine ex_is d_Re_read_225 (Nat.le_of_ble_eq_true rfl) ?_
    refine ex_al d_Re_read_227 rfl ?_
    refine ex_k d_Re_read_228 ?_
    refine ex_cCF [0, 1, 2] hR (c_Re_offset l G ro tp t ((plA (fL T) (fM T) (fE T) j) + 4) ia (fL T / 4) (wdA T 20) (wdA T 24) (wdA T 28) la lb lc T (imgF T (fL T / 4)) hTb ht hc1.1 (by omega) false) (eg_invV 0 d_Re_read_229 cd_Re_offset cx_Re_59 rfl rfl List.mem_cons_self rfl rfl) cd_Re_offset rfl rfl (Nat.le_of_ble_eq_true rfl) (by decide) (by decide) (by omega) (by omega) rfl (fun hc2 => ?_) (fun hc2 => ?_)
    rotate_left
    · exact ext_leave [[], TP G tp T, [], [], []] hG (fun _ h => absurd h List.not_mem_nil) (by first | decide | omega) (by first | decide | omega) (eg_dr5 rfl rfl) (Or.inr ⟨fun y => hc2 ⟨by have := hpe y; omega, by rw [offB, ← eN]; exact (fil_pl y hlt).2.1⟩, rfl, rfl⟩)
    refine ex_eqS [RO ro tp t ((plA (fL T) (fM T) (fE T) j) + 8) (.ref ia) (wdA T 20) (wdA T 24) (wdA T 28) la lb lc, TP G tp T, IMG G ia (fL T / 4) (imgF T (fL T / 4)), ALo la b1 (fM T) x1, q1, PLs 12 (imV T (fL T)) a1 (fM T), ALo lb b2 (fE T) x2, q2, PLs 13 (exW T (fL T) (fM T)) a2 (fE T), ALo lc b3 j x3, q3, PLs 14 (plW T (fL T) (fM T) (fE T)) a3 j] rfl ?_
    refine ex_is d_Re_read_232 (Nat.le_of_ble_eq_true rfl) ?_
    refine ex_al d_Re_read_234 rfl ?_
    refine ex_get1 0 fl_Re_21 d_Re_read_235 rfl rfl ?_
    refine ex_new hR nw_Re_87 d_Re_read_238 (by omega) (by omega) (fun e => ?_)
    refine ex_dup d_Re_read_241 rfl ?_
    refine ex_il d_Re_read_242 rfl ?_
    refine ex_il d_Re_read_244 rfl ?_
    refine ex_al d_Re_read_246 rfl ?_
    refine ex_k d_Re_read_247 ?_
    refine ex_il d_Re_read_248 rfl ?_
    refine ex_k d_Re_read_249 ?_
    refine ex_isub d_Re_read_250 ?_
    refine ex_cCF [0, 1] hR (c_Re_within l G ro tp t ((plA (fL T) (fM T) (fE T) j) + 8) (.ref ia) (wdA T 20) (wdA T 24) (wdA T 28) la lb lc T hTb ht hc2.1 (-1) (wdA T 8 - 1)) (eg_invV 0 d_Re_read_251 cd_Re_within cx_Re_55 rfl rfl List.mem_cons_self rfl rfl) cd_Re_within rfl rfl (Nat.le_of_ble_eq_true rfl) (by decide) (by decide) (by omega) (by omega) rfl (fun hc3 => ?_) (fun hc3 => ?_)
    rotate_left
    · exact ext_leave [[], TP G tp T, [], [], []] hG (fun _ h => absurd h List.not_mem_nil) (by first | decide | omega) (by first | decide | omega) (eg_dr5 rfl rfl) (Or.inr ⟨fun y => hc3 ⟨by have := hpe y; omega, (fil_pl y hlt).2.2⟩, rfl, rfl⟩)
    refine ex_eqS [RO ro tp t ((plA (fL T) (fM T) (fE T) j) + 12) (.ref ia) (wdA T 20) (wdA T 24) (wdA T 28) la lb lc, TP G tp T, IMG G ia (fL T / 4) (imgF T (fL T / 4)), ALo la b1 (fM T) x1, q1, PLs 12 (imV T (fL T)) a1 (fM T), ALo lb b2 (fE T) x2, q2, PLs 13 (exW T (fL T) (fM T)) a2 (fE T), ALo lc b3 j x3, q3, PLs 14 (plW T (fL T) (fM T) (fE T)) a3 j, [(e, .inr (14, [.int 0, .int 0, .int 0, .int 0]))]] rfl ?_
    refine ex_al d_Re_read_254 rfl ?_
    refine ex_cCF [0, 1] hR (c_Re_word l G ro tp t ((plA (fL T) (fM T) (fE T) j) + 12) (.ref ia) (wdA T 20) (wdA T 24) (wdA T 28) la lb lc T hTb ht hc3.1) (eg_invV 0 d_Re_read_255 cd_Re_word cx_Re_42 rfl rfl List.mem_cons_self rfl rfl) cd_Re_word rfl rfl (Nat.le_of_ble_eq_true rfl) (by decide) (by decide) (by omega) (by omega) rfl (fun hc4 => ?_) (fun hc4 => ?_)
    rotate_left
    · exact ext_leave [[], TP G tp T, [], [], []] hG (fun _ h => absurd h List.not_mem_nil) (by first | decide | omega) (by first | decide | omega) (eg_dr5 rfl rfl) (Or.inr ⟨fun y => hc4 (by have := hpe y; omega), rfl, rfl⟩)
    refine ex_eqS [RO ro tp t ((plA (fL T) (fM T) (fE T) j) + 16) (.ref ia) (wdA T 20) (wdA T 24) (wdA T 28) la lb lc, TP G tp T, IMG G ia (fL T / 4) (imgF T (fL T / 4)), ALo la b1 (fM T) x1, q1, PLs 12 (imV T (fL T)) a1 (fM T), ALo lb b2 (fE T) x2, q2, PLs 13 (exW T (fL T) (fM T)) a2 (fE T), ALo lc b3 j x3, q3, PLs 14 (plW T (fL T) (fM T) (fE T)) a3 j, [(e, .inr (14, [.int 0, .int 0, .int 0, .int 0]))]] rfl ?_
    refine ex_cV [12] hR (c_Pl_init l G e (wdA T (plA (fL T) (fM T) (fE T) j)) (wdA T ((plA (fL T) (fM T) (fE T) j) + 4)) (wdA T ((plA (fL T) (fM T) (fE T) j) + 8)) (wdA T ((plA (fL T) (fM T) (fE T) j) + 12))) (eg_invI d_Re_read_258 cd_Pl_init rfl rfl tw_772 cx_Re_89 rfl rfl) cd_Pl_init rfl rfl (Nat.le_of_ble_eq_true rfl) (by decide) (by decide) (by omega) (by omega) rfl ?_
    refine ex_eqS [RO ro tp t ((plA (fL T) (fM T) (fE T) j) + 16) (.ref ia) (wdA T 20) (wdA T 24) (wdA T 28) la lb lc, TP G tp T, IMG G ia (fL T / 4) (imgF T (fL T / 4)), ALo la b1 (fM T) x1, q1, PLs 12 (imV T (fL T)) a1 (fM T), ALo lb b2 (fE T) x2, q2, PLs 13 (exW T (fL T) (fM T)) a2 (fE T), ALo lc b3 j x3, q3, PLs 14 (plW T (fL T) (fM T) (fE T)) a3 j, [(e, .inr (14, plW T (fL T) (fM T) (fE T) j))]] rfl ?_
    refine ex_re [RO ro tp t ((plA (fL T) (fM T) (fE T) j) + 16) (.ref ia) (wdA T 20) (wdA T 24) (wdA T 28) la lb lc, TP G tp T, IMG G ia (fL T / 4) (imgF T (fL T / 4)), ALo la b1 (fM T) x1, q1, PLs 12 (imV T (fL T)) a1 (fM T), ALo lb b2 (fE T) x2, q2, PLs 13 (exW T (fL T) (fM T)) a2 (fE T), ALo lc b3 j x3, q3, PLs 14 (plW T (fL T) (fM T) (fE T)) (va_up a3 j e) (j + 1)] (eg_sub.of (by rw [PLs_s 14]; simp)) ?_
    refine ex_call [9, 10, 11] hR (c_AL_add1 l G 14 4 "ModuleLoader$Place" F_Pl rfl ca_Pl (PLs 14 (plW T (fL T) (fM T) (fE T)) (va_up a3 j e) (j + 1)) lc b3 j x3 (lsF a3 j) q3 hw3 (by omega) (lsF_n a3 j) PLs_E e (plW T (fL T) (fM T) (fE T) j) PLs_y) (eg_invV 9 d_Re_read_261 cd_AL_add1 cx_Re_80 rfl rfl List.mem_cons_self rfl rfl) cd_AL_add1 rfl rfl (Nat.le_of_ble_eq_true rfl) (by decide) (by decide) (by omega) (by omega) (fun v S1 hK1 => ?_) (fun E S1 hK1 => ?_)
    rotate_left
    · obtain ⟨b4, q4, h1, rfl, hw4⟩ := hK1
      cases h1
    obtain ⟨b4, q4, h1, rfl, hw4⟩ := hK1
    cases h1
    refine ex_eqS [RO ro tp t (plA (fL T) (fM T) (fE T) (j + 1)) (.ref ia) (wdA T 20) (wdA T 24) (wdA T 28) la lb lc, TP G tp T, IMG G ia (fL T / 4) (imgF T (fL T / 4)), ALo la b1 (fM T) x1, q1, PLs 12 (imV T (fL T)) a1 (fM T), ALo lb b2 (fE T) x2, q2, PLs 13 (exW T (fL T) (fM T)) a2 (fE T), ALo lc b4 (j + 1) (x3 + 1), q4, PLs 14 (plW T (fL T) (fM T) (fE T)) (va_up a3 j e) (j + 1)] rfl ?_
    refine ex_pop d_Re_read_264 rfl ?_
    refine ex_inc d_Re_read_265 rfl ?_
    refine ex_goto d_Re_read_268 ?_
    rw [lsF_s] at hw4
    refine ex_forget [true, true, true, true, true, true, false, false] ?_
    refine ex_eqL [some (.ref ro), some (.int (wdA T 4)), some (.int (wdA T 8)), some (.int (wdA T 12)), some (.int (wdA T 16)), some (.int (nI (j + 1))), none, none] rfl ?_
    exact ex_wide (by omega) (by omega) (ih hlt hc4 (by rw [rall_s, hg, plP_of eM hM hc1.2 (by have := hc2.2; rw [offB, ← eN] at this; exact this) hc3.2]; rfl) b4 (x3 + 1) q4 (va_up a3 j e) hw4)
  have J193 : ∀ (ia : Nat) (b1 : Nat) (x1 : Int32) (q1 : va_W) (a1 : Nat → Nat), h0B T t = true → h1B T = true → h2B T = true → rall (imP T) (fM T) = true → ALw G b1 (fM T) (lsF a1 (fM T)) q1 → ∀ j, j ≤ fE T → (exA (fL T) (fM T) j) ≤ t → rall (exP T) j = true → ∀ (b2 : Nat) (x2 : Int32) (q2 : va_W) (a2 : Nat → Nat), ALw G b2 j (lsF a2 j) q2 → Ex G Γ mu_Re_read 193 [some (.ref ro), some (.int (wdA T 4)), some (.int (wdA T 8)), some (.int (wdA T 12)), some (.int (wdA T 16)), some (.int (nI j)), none, none] [] [RO ro tp t (exA (fL T) (fM T) j) (.ref ia) (wdA T 20) (wdA T 24) (wdA T 28) la lb lc, TP G tp T, IMG G ia (fL T / 4) (imgF T (fL T / 4)), ALo la b1 (fM T) x1, q1, PLs 12 (imV T (fL T)) a1 (fM T), ALo lb b2 j x2, q2, PLs 13 (exW T (fL T) (fM T)) a2 j, ALo lc G.2.2.2.1 0 0, [], PLs 14 (plW T (fL T) (fM T) (fE T)) (fun _ => 0) 0] (191 + 16 * j) (1976 + 200 * j) := by
    intro ia b1 x1 q1 a1 H0 H1 H2 him hw1
    obtain ⟨⟨eL, hL1, hL2, hL4⟩, ⟨eM, hM⟩, ⟨eE, hE⟩, ⟨eP, hP⟩⟩ := h1B_of H1
    have eN : wdA T 4 = nI (4 * (fL T / 4)) := by rw [eL]; congr 1; omega
    refine eg_down (fE T) (fun j hj ih hpj hg b2 x2 q2 a2 hw2 => ?_)
    refine ex_il d_Re_read_193 rfl ?_
    refine ex_il d_Re_read_195 rfl ?_
    refine ex_icmp_ge d_Re_read_196 (fun z => ?_) (fun z => ?_)
    · have z := le_n (a := fE T) z eE
      obtain rfl : j = fE T := by omega
      refine ex_wide (n' := 319 + 9 * 0) (k' := 3576 + 146 * 0) (by omega) (by omega) ?_
      refine ex_k d_Re_read_209 ?_
      refine ex_is d_Re_read_210 (Nat.le_of_ble_eq_true rfl) ?_
      exact J212 ia b1 x1 q1 a1 b2 x2 q2 a2 H0 H1 H2 him hg hw1 hw2 0 (Nat.zero_le _) hpj rfl G.2.2.2.1 0 [] (fun _ => 0) (Or.inl ⟨rfl, rfl, rfl⟩)
    have hlt := lt_n (a := fE T) z eE
    refine ex_al d_Re_read_199 rfl ?_
    refine ex_call [0, 1, 2, 6, 7, 8] hR (c_Re_export l G ro tp t ia (fL T / 4) (fL T) (fM T) j (wdA T 20) (wdA T 24) (wdA T 28) la lb lc T (imgF T (fL T / 4)) hTb ht hpj (by omega) a2 b2 x2 q2 hw2 (by omega)) (eg_invV 0 d_Re_read_200 cd_Re_export cx_Re_84 rfl rfl List.mem_cons_self rfl rfl) cd_Re_export rfl rfl (Nat.le_of_ble_eq_true rfl) (by decide) (by decide) (by omega) (by omega) (fun v S1 hK1 => ?_) (fun E S1 hK1 => ?_)
    rotate_left
    · rcases hK1 with ⟨-, h1, -⟩ | ⟨hC, h1, rfl⟩
      · cases h1
      · cases h1
        exact ext_leave [[], TP G tp T, [], [], []] hG (fun _ h => absurd h List.not_mem_nil) (by first | decide | omega) (by first | decide | omega) (eg_dr5 rfl rfl) (Or.inr ⟨fun y => hC (fil_ex y ht hlt eN), rfl, rfl⟩)
    rcases hK1 with ⟨hC, h1, e, b4, x4, q4, rfl, hw4⟩ | ⟨-, h1, -⟩
    rotate_left
    · cases h1
    cases h1
    refine ex_eqS [RO ro tp t (exA (fL T) (fM T) (j + 1)) (.ref ia) (wdA T 20) (wdA T 24) (wdA T 28) la lb lc, TP G tp T, IMG G ia (fL T / 4) (imgF T (fL T / 4)), ALo la b1 (fM T) x1, q1, PLs 12 (imV T (fL T)) a1 (fM T), ALo lb b4 (j + 1) x4, q4, PLs 13 (exW T (fL T) (fM T)) (va_up a2 j e) (j + 1), ALo lc G.2.2.2.1 0 0, [], PLs 14 (plW T (fL T) (fM T) (fE T)) (fun _ => 0) 0] rfl ?_
    refine ex_inc d_Re_read_203 rfl ?_
    refine ex_goto d_Re_read_206 ?_
    exact ex_wide (by omega) (by omega) (ih hlt hC.1 (by rw [rall_s, hg, exP_of hC eN]; rfl) b4 x4 q4 (va_up a2 j e) hw4)
  have J155 : ∀ (ia : Nat), h0B T t = true → h1B T = true → h2B T = true → ∀ j, j ≤ fM T → (imA (fL T) j) ≤ t → rall (imP T) j = true → ∀ (b1 : Nat) (x1 : Int32) (q1 : va_W) (a1 : Nat → Nat), ALw G b1 j (lsF a1 j) q1 → Ex G Γ mu_Re_read 155 [some (.ref ro), some (.int (wdA T 4)), some (.int (wdA T 8)), some (.int (wdA T 12)), some (.int (wdA T 16)), some (.int (nI j)), none, none] [] [RO ro tp t (imA (fL T) j) (.ref ia) (wdA T 20) (wdA T 24) (wdA T 28) la lb lc, TP G tp T, IMG G ia (fL T / 4) (imgF T (fL T / 4)), ALo la b1 j x1, q1, PLs 12 (imV T (fL T)) a1 j, ALo lb G.2.2.2.1 0 0, [], PLs 13 (exW T (fL T) (fM T)) (fun _ => 0) 0, ALo lc G.2.2.2.1 0 0, [], PLs 14 (plW T (fL T) (fM T) (fE T)) (fun _ => 0) 0] (151 + 5 * j) (1016 + 120 * j) := by
    intro ia H0 H1 H2
    obtain ⟨⟨eL, hL1, hL2, hL4⟩, ⟨eM, hM⟩, ⟨eE, hE⟩, ⟨eP, hP⟩⟩ := h1B_of H1
    refine eg_down (fM T) (fun j hj ih hpj hg b1 x1 q1 a1 hw1 => ?_)
    refine ex_il d_Re_read_155 rfl ?_
    refine ex_il d_Re_read_157 rfl ?_
    refine ex_icmp_ge d_Re_read_158 (fun z => ?_) (fun z => ?_)
    · have z := le_n (a := fM T) z eM
      obtain rfl : j = fM T := by omega
      refine ex_wide (n' := 191 + 16 * 0) (k' := 1976 + 200 * 0) (by omega) (by omega) ?_
      refine ex_k d_Re_read_190 ?_
      refine ex_is d_Re_read_191 (Nat.le_of_ble_eq_true rfl) ?_
      exact J193 ia b1 x1 q1 a1 H0 H1 H2 hg hw1 0 (Nat.zero_le _) hpj rfl G.2.2.2.1 0 [] (fun _ => 0) (Or.inl ⟨rfl, rfl, rfl⟩)
    have hlt := lt_n (a := fM T) z eM
    have hpe : filB T t = true → imA (fL T) j + 8 ≤ t := fun y => by
      rw [fil_t y ht]
      unfold imA plA
      omega
    refine ex_al d_Re_read_161 rfl ?_
    refine ex_get1 0 fl_Re_12 d_Re_read_162 rfl rfl ?_
    refine ex_new hR nw_Re_72 d_Re_read_165 (by omega) (by omega) (fun e => ?_)
    refine ex_dup d_Re_read_168 rfl ?_
    refine ex_al d_Re_read_169 rfl ?_
    refine ex_cCF [0, 1] hR (c_Re_name l G ro tp t (imA (fL T) j) (.ref ia) (wdA T 20) (wdA T 24) (wdA T 28) la lb lc T hTb ht hpj) (eg_invV 0 d_Re_read_170 cd_Re_name cx_Re_74 rfl rfl List.mem_cons_self rfl rfl) cd_Re_name rfl rfl (Nat.le_of_ble_eq_true rfl) (by decide) (by decide) (by omega) (by omega) rfl (fun hc1 => ?_) (fun hc1 => ?_)
    rotate_left
    · exact ext_leave [[], TP G tp T, [], [], []] hG (fun _ h => absurd h List.not_mem_nil) (by first | decide | omega) (by first | decide | omega) (eg_dr5 rfl rfl) (Or.inr ⟨fun y => hc1 ⟨by have := hpe y; omega, fil_im y hlt⟩, rfl, rfl⟩)
    refine ex_eqS [RO ro tp t ((imA (fL T) j) + 4) (.ref ia) (wdA T 20) (wdA T 24) (wdA T 28) la lb lc, TP G tp T, IMG G ia (fL T / 4) (imgF T (fL T / 4)), ALo la b1 j x1, q1, PLs 12 (imV T (fL T)) a1 j, ALo lb G.2.2.2.1 0 0, [], PLs 13 (exW T (fL T) (fM T)) (fun _ => 0) 0, ALo lc G.2.2.2.1 0 0, [], PLs 14 (plW T (fL T) (fM T) (fE T)) (fun _ => 0) 0, [(e, .inr (12, [.int 0, .int 0]))]] rfl ?_
    refine ex_al d_Re_read_173 rfl ?_
    refine ex_cCF [0, 1] hR (c_Re_word l G ro tp t ((imA (fL T) j) + 4) (.ref ia) (wdA T 20) (wdA T 24) (wdA T 28) la lb lc T hTb ht hc1.1) (eg_invV 0 d_Re_read_174 cd_Re_word cx_Re_42 rfl rfl List.mem_cons_self rfl rfl) cd_Re_word rfl rfl (Nat.le_of_ble_eq_true rfl) (by decide) (by decide) (by omega) (by omega) rfl (fun hc2 => ?_) (fun hc2 => ?_)
    rotate_left
    · exact ext_leave [[], TP G tp T, [], [], []] hG (fun _ h => absurd h List.not_mem_nil) (by first | decide | omega) (by first | decide | omega) (eg_dr5 rfl rfl) (Or.inr ⟨fun y => hc2 (by have := hpe y; omega), rfl, rfl⟩)
    refine ex_eqS [RO ro tp t ((imA (fL T) j) + 8) (.ref ia) (wdA T 20) (wdA T 24) (wdA T 28) la lb lc, TP G tp T, IMG G ia (fL T / 4) (imgF T (fL T / 4)), ALo la b1 j x1, q1, PLs 12 (imV T (fL T)) a1 j, ALo lb G.2.2.2.1 0 0, [], PLs 13 (exW T (fL T) (fM T)) (fun _ => 0) 0, ALo lc G.2.2.2.1 0 0, [], PLs 14 (plW T (fL T) (fM T) (fE T)) (fun _ => 0) 0, [(e, .inr (12, [.int 0, .int 0]))]] rfl ?_
    refine ex_cV [12] hR (c_Im_init l G e (wdA T (imA (fL T) j)) (wdA T ((imA (fL T) j) + 4))) (eg_invI d_Re_read_177 cd_Im_init rfl rfl tw_662 cx_Re_77 rfl rfl) cd_Im_init rfl rfl (Nat.le_of_ble_eq_true rfl) (by decide) (by decide) (by omega) (by omega) rfl ?_
    refine ex_eqS [RO ro tp t ((imA (fL T) j) + 8) (.ref ia) (wdA T 20) (wdA T 24) (wdA T 28) la lb lc, TP G tp T, IMG G ia (fL T / 4) (imgF T (fL T / 4)), ALo la b1 j x1, q1, PLs 12 (imV T (fL T)) a1 j, ALo lb G.2.2.2.1 0 0, [], PLs 13 (exW T (fL T) (fM T)) (fun _ => 0) 0, ALo lc G.2.2.2.1 0 0, [], PLs 14 (plW T (fL T) (fM T) (fE T)) (fun _ => 0) 0, [(e, .inr (12, imV T (fL T) j))]] rfl ?_
    refine ex_re [RO ro tp t ((imA (fL T) j) + 8) (.ref ia) (wdA T 20) (wdA T 24) (wdA T 28) la lb lc, TP G tp T, IMG G ia (fL T / 4) (imgF T (fL T / 4)), ALo la b1 j x1, q1, PLs 12 (imV T (fL T)) (va_up a1 j e) (j + 1), ALo lb G.2.2.2.1 0 0, [], PLs 13 (exW T (fL T) (fM T)) (fun _ => 0) 0, ALo lc G.2.2.2.1 0 0, [], PLs 14 (plW T (fL T) (fM T) (fE T)) (fun _ => 0) 0] (eg_sub.trans (eg_sub.of (by rw [PLs_s 12]; simp [eg_pk])) (eg_pick [0, 1, 2, 3, 4, 5, 12, 6, 7, 8, 9, 10, 11] rfl rfl)) ?_
    refine ex_call [3, 4, 5] hR (c_AL_add1 l G 12 2 "ModuleLoader$Import" F_Im rfl ca_Im (PLs 12 (imV T (fL T)) (va_up a1 j e) (j + 1)) la b1 j x1 (lsF a1 j) q1 hw1 (by omega) (lsF_n a1 j) PLs_E e (imV T (fL T) j) PLs_y) (eg_invV 3 d_Re_read_180 cd_AL_add1 cx_Re_80 rfl rfl List.mem_cons_self rfl rfl) cd_AL_add1 rfl rfl (Nat.le_of_ble_eq_true rfl) (by decide) (by decide) (by omega) (by omega) (fun v S1 hK1 => ?_) (fun E S1 hK1 => ?_)
    rotate_left
    · obtain ⟨b4, q4, h1, rfl, hw4⟩ := hK1
      cases h1
    obtain ⟨b4, q4, h1, rfl, hw4⟩ := hK1
    cases h1
    refine ex_eqS [RO ro tp t (imA (fL T) (j + 1)) (.ref ia) (wdA T 20) (wdA T 24) (wdA T 28) la lb lc, TP G tp T, IMG G ia (fL T / 4) (imgF T (fL T / 4)), ALo la b4 (j + 1) (x1 + 1), q4, PLs 12 (imV T (fL T)) (va_up a1 j e) (j + 1), ALo lb G.2.2.2.1 0 0, [], PLs 13 (exW T (fL T) (fM T)) (fun _ => 0) 0, ALo lc G.2.2.2.1 0 0, [], PLs 14 (plW T (fL T) (fM T) (fE T)) (fun _ => 0) 0] rfl ?_
    refine ex_pop d_Re_read_183 rfl ?_
    refine ex_inc d_Re_read_184 rfl ?_
    refine ex_goto d_Re_read_187 ?_
    rw [lsF_s] at hw4
    exact ex_wide (by omega) (by omega) (ih hlt hc2 (by rw [rall_s, hg, show imP T j = true from hc1.2]; rfl) b4 (x1 + 1) q4 (va_up a1 j e) hw4)
  have J125 : ∀ (ia : Nat), h0B T t = true → h1B T = true → h2B T = true → ∀ j, j ≤ fL T / 4 → (32 + 4 * j) ≤ t → Ex G Γ mu_Re_read 125 [some (.ref ro), some (.int (wdA T 4)), some (.int (wdA T 8)), some (.int (wdA T 12)), some (.int (wdA T 16)), some (.int (nI j)), none, none] [] [RO ro tp t (32 + 4 * j) (.ref ia) (wdA T 20) (wdA T 24) (wdA T 28) la lb lc, TP G tp T, IMG G ia (fL T / 4) (imgF T j), ALo la G.2.2.2.1 0 0, [], PLs 12 (imV T (fL T)) (fun _ => 0) 0, ALo lb G.2.2.2.1 0 0, [], PLs 13 (exW T (fL T) (fM T)) (fun _ => 0) 0, ALo lc G.2.2.2.1 0 0, [], PLs 14 (plW T (fL T) (fM T) (fE T)) (fun _ => 0) 0] (20 + j) (240 + 6 * j) := by
    intro ia H0 H1 H2
    obtain ⟨⟨eL, hL1, hL2, hL4⟩, -⟩ := h1B_of H1
    refine eg_down (fL T / 4) (fun j hj ih hpj => ?_)
    refine ex_il d_Re_read_125 rfl ?_
    refine ex_al d_Re_read_127 rfl ?_
    refine ex_get1 0 fl_Re_50 d_Re_read_128 rfl rfl ?_
    refine ex_alen 2 d_Re_read_131 rfl List.mem_cons_self rfl ?_
    refine ex_icmp_ge d_Re_read_132 (fun z => ?_) (fun z => ?_)
    · have z := le_n (a := fL T / 4) z
      obtain rfl : j = fL T / 4 := by omega
      refine ex_wide (n' := 151 + 5 * 0) (k' := 1016 + 120 * 0) (by omega) (by omega) ?_
      refine ex_k d_Re_read_152 ?_
      refine ex_is d_Re_read_153 (Nat.le_of_ble_eq_true rfl) ?_
      have e0 : 32 + 4 * (fL T / 4) = imA (fL T) 0 := by unfold imA; omega
      rw [e0] at hpj ⊢
      exact J155 ia H0 H1 H2 0 (Nat.zero_le _) hpj rfl G.2.2.2.1 0 [] (fun _ => 0) (Or.inl ⟨rfl, rfl, rfl⟩)
    have hlt := lt_n (a := fL T / 4) z
    refine ex_al d_Re_read_135 rfl ?_
    refine ex_get1 0 fl_Re_50 d_Re_read_136 rfl rfl ?_
    refine ex_il d_Re_read_139 rfl ?_
    refine ex_al d_Re_read_141 rfl ?_
    refine ex_cCF [0, 1] hR (c_Re_word l G ro tp t (32 + 4 * j) (.ref ia) (wdA T 20) (wdA T 24) (wdA T 28) la lb lc T hTb ht hpj) (eg_invV 0 d_Re_read_142 cd_Re_word cx_Re_42 rfl rfl List.mem_cons_self rfl rfl) cd_Re_word rfl rfl (Nat.le_of_ble_eq_true rfl) (by decide) (by decide) (by omega) (by omega) rfl (fun hc1 => ?_) (fun hc1 => ?_)
    rotate_left
    · exact ext_leave [[], TP G tp T, [], [], []] hG (fun _ h => absurd h List.not_mem_nil) (by first | decide | omega) (by first | decide | omega) (eg_dr5 rfl rfl) (Or.inr ⟨fun y => hc1 (by rw [fil_t y ht]; unfold plA; omega), rfl, rfl⟩)
    refine ex_eqS [RO ro tp t (32 + 4 * (j + 1)) (.ref ia) (wdA T 20) (wdA T 24) (wdA T 28) la lb lc, TP G tp T, IMG G ia (fL T / 4) (imgF T j), ALo la G.2.2.2.1 0 0, [], PLs 12 (imV T (fL T)) (fun _ => 0) 0, ALo lb G.2.2.2.1 0 0, [], PLs 13 (exW T (fL T) (fM T)) (fun _ => 0) 0, ALo lc G.2.2.2.1 0 0, [], PLs 14 (plW T (fL T) (fM T) (fE T)) (fun _ => 0) 0] rfl ?_
    refine ex_iastp 2 0 d_Re_read_145 rfl rfl (ix_e hlt rfl (by omega)) ?_
    refine ex_eqS [RO ro tp t (32 + 4 * (j + 1)) (.ref ia) (wdA T 20) (wdA T 24) (wdA T 28) la lb lc, TP G tp T, IMG G ia (fL T / 4) (imgF T (j + 1)), ALo la G.2.2.2.1 0 0, [], PLs 12 (imV T (fL T)) (fun _ => 0) 0, ALo lb G.2.2.2.1 0 0, [], PLs 13 (exW T (fL T) (fM T)) (fun _ => 0) 0, ALo lc G.2.2.2.1 0 0, [], PLs 14 (plW T (fL T) (fM T) (fE T)) (fun _ => 0) 0] (by rw [← imgF_s]; rfl) ?_
    refine ex_inc d_Re_read_146 rfl ?_
    refine ex_goto d_Re_read_149 ?_
    exact ex_wide (by omega) (by omega) (ih hlt hc1)
  refine ex_al d_Re_read_0 rfl ?_
  refine ex_al d_Re_read_1 rfl ?_
  refine ex_cCF [0, 1] hR (c_Re_word l G ro tp t 0 .null 0 0 0 la lb lc T hTb ht (Nat.zero_le _)) (eg_invV 0 d_Re_read_2 cd_Re_word cx_Re_42 rfl rfl List.mem_cons_self rfl rfl) cd_Re_word rfl rfl (Nat.le_of_ble_eq_true rfl) (by decide) (by decide) (by decide) (by decide) rfl (fun hc0 => ?_) (fun hc0 => ?_)
  rotate_left
  · exact ext_leave [[], TP G tp T, [], [], []] hG (fun _ h => absurd h List.not_mem_nil) (by first | decide | omega) (by first | decide | omega) (eg_dr5 rfl rfl) (Or.inr ⟨fun y => hc0 (by have := (fil_hd y).1; omega), rfl, rfl⟩)
  refine ex_eqS [RO ro tp t 4 .null 0 0 0 la lb lc, TP G tp T, ALo la G.2.2.2.1 0 0, ALo lb G.2.2.2.1 0 0, ALo lc G.2.2.2.1 0 0] rfl ?_
  refine ex_k d_Re_read_5 ?_
  refine ex_icmp_ne d_Re_read_7 (fun z => ?_) (fun z => ?_)
  · refine ex_k d_Re_read_14 ?_
    refine ex_cCV [] hR (c_Re_need l G ro false) (eg_invV 0 d_Re_read_15 cd_Re_need cx_Re_38 rfl rfl List.mem_cons_self rfl rfl) cd_Re_need rfl rfl (Nat.le_of_ble_eq_true rfl) (by decide) (by decide) (by decide) (by decide) rfl (fun hb => ?_) (fun hb => ?_)
    rotate_left
    · exact ext_leave [[], TP G tp T, [], [], []] hG (fun _ h => absurd h List.not_mem_nil) (by first | decide | omega) (by first | decide | omega) (eg_dr5 rfl rfl) (Or.inr ⟨fun y => z (fil_hd y).2.1, rfl, rfl⟩)
    exact absurd hb (by decide)
  refine ex_k d_Re_read_10 ?_
  refine ex_goto d_Re_read_11 ?_
  refine ex_cCV [] hR (c_Re_need l G ro true) (eg_invV 0 d_Re_read_15 cd_Re_need cx_Re_38 rfl rfl List.mem_cons_self rfl rfl) cd_Re_need rfl rfl (Nat.le_of_ble_eq_true rfl) (by decide) (by decide) (by decide) (by decide) rfl (fun hb => ?_) (fun hb => ?_)
  rotate_left
  · exact absurd rfl hb
  refine ex_eqS [RO ro tp t 4 .null 0 0 0 la lb lc, TP G tp T, ALo la G.2.2.2.1 0 0, ALo lb G.2.2.2.1 0 0, ALo lc G.2.2.2.1 0 0] rfl ?_
  refine ex_al d_Re_read_18 rfl ?_
  refine ex_k d_Re_read_19 ?_
  refine ex_k d_Re_read_20 ?_
  refine ex_cCF [0, 1] hR (c_Re_within l G ro tp t 4 .null 0 0 0 la lb lc T hTb ht hc0 4 512) (eg_invV 0 d_Re_read_23 cd_Re_within cx_Re_55 rfl rfl List.mem_cons_self rfl rfl) cd_Re_within rfl rfl (Nat.le_of_ble_eq_true rfl) (by decide) (by decide) (by decide) (by decide) rfl (fun hc1 => ?_) (fun hc1 => ?_)
  rotate_left
  · exact ext_leave [[], TP G tp T, [], [], []] hG (fun _ h => absurd h List.not_mem_nil) (by first | decide | omega) (by first | decide | omega) (eg_dr5 rfl rfl) (Or.inr ⟨fun y => hc1 ⟨by have := (fil_hd y).1; omega, (fil_hd y).2.2.1⟩, rfl, rfl⟩)
  refine ex_eqS [RO ro tp t 8 .null 0 0 0 la lb lc, TP G tp T, ALo la G.2.2.2.1 0 0, ALo lb G.2.2.2.1 0 0, ALo lc G.2.2.2.1 0 0] rfl ?_
  refine ex_is d_Re_read_26 (Nat.le_of_ble_eq_true rfl) ?_
  refine ex_al d_Re_read_27 rfl ?_
  refine ex_il d_Re_read_28 rfl ?_
  refine ex_k d_Re_read_29 ?_
  refine ex_irem d_Re_read_30 (by decide) ?_
  refine ex_if_ne d_Re_read_31 (fun z2 => ?_) (fun z2 => ?_)
  · refine ex_k d_Re_read_38 ?_
    refine ex_cCV [] hR (c_Re_need l G ro false) (eg_invV 0 d_Re_read_39 cd_Re_need cx_Re_38 rfl rfl List.mem_cons_self rfl rfl) cd_Re_need rfl rfl (Nat.le_of_ble_eq_true rfl) (by decide) (by decide) (by decide) (by decide) rfl (fun hb => ?_) (fun hb => ?_)
    rotate_left
    · exact ext_leave [[], TP G tp T, [], [], []] hG (fun _ h => absurd h List.not_mem_nil) (by first | decide | omega) (by first | decide | omega) (eg_dr5 rfl rfl) (Or.inr ⟨fun y => z2 (fil_hd y).2.2.2.1, rfl, rfl⟩)
    exact absurd hb (by decide)
  refine ex_k d_Re_read_34 ?_
  refine ex_goto d_Re_read_35 ?_
  refine ex_cCV [] hR (c_Re_need l G ro true) (eg_invV 0 d_Re_read_39 cd_Re_need cx_Re_38 rfl rfl List.mem_cons_self rfl rfl) cd_Re_need rfl rfl (Nat.le_of_ble_eq_true rfl) (by decide) (by decide) (by decide) (by decide) rfl (fun hb => ?_) (fun hb => ?_)
  rotate_left
  · exact absurd rfl hb
  refine ex_eqS [RO ro tp t 8 .null 0 0 0 la lb lc, TP G tp T, ALo la G.2.2.2.1 0 0, ALo lb G.2.2.2.1 0 0, ALo lc G.2.2.2.1 0 0] rfl ?_
  obtain ⟨eL, hL1, hL2, hL4⟩ := rd_L hc1.2 z2
  have eN : wdA T 4 = nI (4 * (fL T / 4)) := by rw [eL]; congr 1; omega
  refine ex_al d_Re_read_42 rfl ?_
  refine ex_il d_Re_read_43 rfl ?_
  refine ex_k d_Re_read_44 ?_
  refine ex_idiv d_Re_read_45 (by decide) ?_
  refine ex_eqT [.int (nI (fL T / 4)), .ref ro] (by rw [eL, ← pk_div (d := 4) (by omega) (by decide) (by decide)]; rfl) ?_
  refine ex_newa (N := fL T / 4) (t := 2) (a0 := (fL T / 4, .inl (fun _ => 0))) hR d_Re_read_46 rfl ac_int rfl (fun _ => rfl) (nI_pos (by omega)) (nI_clamp (by omega)) (by show _ * 4 ≤ _; omega) (by decide) (by omega) (fun ia => ?_)
  refine ex_wide (n' := 6) (k' := 158) (by decide) (by omega) ?_
  refine ex_put1 0 wl_Re_50 d_Re_read_48 rfl rfl rfl (Nat.le_of_ble_eq_true rfl) ?_
  refine ex_eqS [RO ro tp t 8 (.ref ia) 0 0 0 la lb lc, TP G tp T, ALo la G.2.2.2.1 0 0, ALo lb G.2.2.2.1 0 0, ALo lc G.2.2.2.1 0 0, IMG G ia (fL T / 4) (fun _ => 0)] rfl ?_
  refine ex_re [RO ro tp t 8 (.ref ia) 0 0 0 la lb lc, TP G tp T, IMG G ia (fL T / 4) (fun _ => 0), ALo la G.2.2.2.1 0 0, [], PLs 12 (imV T (fL T)) (fun _ => 0) 0, ALo lb G.2.2.2.1 0 0, [], PLs 13 (exW T (fL T) (fM T)) (fun _ => 0) 0, ALo lc G.2.2.2.1 0 0, [], PLs 14 (plW T (fL T) (fM T) (fE T)) (fun _ => 0) 0] (eg_sub.trans (eg_sub.of (by simp [PLs, eg_pk])) (eg_pick [0, 1, 5, 2, 3, 4] rfl rfl)) ?_
  refine ex_al d_Re_read_51 rfl ?_
  refine ex_k d_Re_read_52 ?_
  refine ex_k d_Re_read_53 ?_
  refine ex_cCF [0, 1] hR (c_Re_within l G ro tp t 8 (.ref ia) 0 0 0 la lb lc T hTb ht hc1.1 0 8) (eg_invV 0 d_Re_read_55 cd_Re_within cx_Re_55 rfl rfl List.mem_cons_self rfl rfl) cd_Re_within rfl rfl (Nat.le_of_ble_eq_true rfl) (by decide) (by decide) (by decide) (by decide) rfl (fun hc2 => ?_) (fun hc2 => ?_)
  rotate_left
  · exact ext_leave [[], TP G tp T, [], [], []] hG (fun _ h => absurd h List.not_mem_nil) (by first | decide | omega) (by first | decide | omega) (eg_dr5 rfl rfl) (Or.inr ⟨fun y => hc2 ⟨by have := (fil_hd y).1; omega, (fil_hd y).2.2.2.2.1⟩, rfl, rfl⟩)
  refine ex_eqS [RO ro tp t 12 (.ref ia) 0 0 0 la lb lc, TP G tp T, IMG G ia (fL T / 4) (fun _ => 0), ALo la G.2.2.2.1 0 0, [], PLs 12 (imV T (fL T)) (fun _ => 0) 0, ALo lb G.2.2.2.1 0 0, [], PLs 13 (exW T (fL T) (fM T)) (fun _ => 0) 0, ALo lc G.2.2.2.1 0 0, [], PLs 14 (plW T (fL T) (fM T) (fE T)) (fun _ => 0) 0] rfl ?_
  refine ex_is d_Re_read_58 (Nat.le_of_ble_eq_true rfl) ?_
  refine ex_al d_Re_read_59 rfl ?_
  refine ex_k d_Re_read_60 ?_
  refine ex_k d_Re_read_61 ?_
  refine ex_cCF [0, 1] hR (c_Re_within l G ro tp t 12 (.ref ia) 0 0 0 la lb lc T hTb ht hc2.1 0 8) (eg_invV 0 d_Re_read_63 cd_Re_within cx_Re_55 rfl rfl List.mem_cons_self rfl rfl) cd_Re_within rfl rfl (Nat.le_of_ble_eq_true rfl) (by decide) (by decide) (by decide) (by decide) rfl (fun hc3 => ?_) (fun hc3 => ?_)
  rotate_left
  · exact ext_leave [[], TP G tp T, [], [], []] hG (fun _ h => absurd h List.not_mem_nil) (by first | decide | omega) (by first | decide | omega) (eg_dr5 rfl rfl) (Or.inr ⟨fun y => hc3 ⟨by have := (fil_hd y).1; omega, (fil_hd y).2.2.2.2.2.1⟩, rfl, rfl⟩)
  refine ex_eqS [RO ro tp t 16 (.ref ia) 0 0 0 la lb lc, TP G tp T, IMG G ia (fL T / 4) (fun _ => 0), ALo la G.2.2.2.1 0 0, [], PLs 12 (imV T (fL T)) (fun _ => 0) 0, ALo lb G.2.2.2.1 0 0, [], PLs 13 (exW T (fL T) (fM T)) (fun _ => 0) 0, ALo lc G.2.2.2.1 0 0, [], PLs 14 (plW T (fL T) (fM T) (fE T)) (fun _ => 0) 0] rfl ?_
  refine ex_is d_Re_read_66 (Nat.le_of_ble_eq_true rfl) ?_
  refine ex_al d_Re_read_67 rfl ?_
  refine ex_k d_Re_read_68 ?_
  refine ex_k d_Re_read_69 ?_
  refine ex_cCF [0, 1] hR (c_Re_within l G ro tp t 16 (.ref ia) 0 0 0 la lb lc T hTb ht hc3.1 0 24) (eg_invV 0 d_Re_read_71 cd_Re_within cx_Re_55 rfl rfl List.mem_cons_self rfl rfl) cd_Re_within rfl rfl (Nat.le_of_ble_eq_true rfl) (by decide) (by decide) (by decide) (by decide) rfl (fun hc4 => ?_) (fun hc4 => ?_)
  rotate_left
  · exact ext_leave [[], TP G tp T, [], [], []] hG (fun _ h => absurd h List.not_mem_nil) (by first | decide | omega) (by first | decide | omega) (eg_dr5 rfl rfl) (Or.inr ⟨fun y => hc4 ⟨by have := (fil_hd y).1; omega, (fil_hd y).2.2.2.2.2.2.1⟩, rfl, rfl⟩)
  refine ex_eqS [RO ro tp t 20 (.ref ia) 0 0 0 la lb lc, TP G tp T, IMG G ia (fL T / 4) (fun _ => 0), ALo la G.2.2.2.1 0 0, [], PLs 12 (imV T (fL T)) (fun _ => 0) 0, ALo lb G.2.2.2.1 0 0, [], PLs 13 (exW T (fL T) (fM T)) (fun _ => 0) 0, ALo lc G.2.2.2.1 0 0, [], PLs 14 (plW T (fL T) (fM T) (fE T)) (fun _ => 0) 0] rfl ?_
  refine ex_is d_Re_read_74 (Nat.le_of_ble_eq_true rfl) ?_
  refine ex_al d_Re_read_76 rfl ?_
  refine ex_al d_Re_read_77 rfl ?_
  refine ex_k d_Re_read_78 ?_
  have hof : ∀ w : Int32, offB true w (4 * (fL T / 4)) = (decide (w = -1) || isWd w (wdA T 4)) := fun w => by rw [offB, ← eN, Bool.true_and]
  refine ex_cCF [0, 1, 2] hR (c_Re_offset l G ro tp t 20 ia (fL T / 4) 0 0 0 la lb lc T (fun _ => 0) hTb ht hc4.1 (by omega) true) (eg_invV 0 d_Re_read_79 cd_Re_offset cx_Re_59 rfl rfl List.mem_cons_self rfl rfl) cd_Re_offset rfl rfl (Nat.le_of_ble_eq_true rfl) (by decide) (by decide) (by decide) (by decide) rfl (fun hc5 => ?_) (fun hc5 => ?_)
  rotate_left
  · exact ext_leave [[], TP G tp T, [], [], []] hG (fun _ h => absurd h List.not_mem_nil) (by first | decide | omega) (by first | decide | omega) (eg_dr5 rfl rfl) (Or.inr ⟨fun y => hc5 ⟨by have := (fil_hd y).1; omega, by rw [hof]; exact (fil_hd y).2.2.2.2.2.2.2.1⟩, rfl, rfl⟩)
  refine ex_eqS [RO ro tp t 24 (.ref ia) 0 0 0 la lb lc, TP G tp T, IMG G ia (fL T / 4) (fun _ => 0), ALo la G.2.2.2.1 0 0, [], PLs 12 (imV T (fL T)) (fun _ => 0) 0, ALo lb G.2.2.2.1 0 0, [], PLs 13 (exW T (fL T) (fM T)) (fun _ => 0) 0, ALo lc G.2.2.2.1 0 0, [], PLs 14 (plW T (fL T) (fM T) (fE T)) (fun _ => 0) 0] rfl ?_
  refine ex_put1 0 wl_Re_63 d_Re_read_82 rfl rfl rfl (Nat.le_of_ble_eq_true rfl) ?_
  refine ex_al d_Re_read_85 rfl ?_
  refine ex_al d_Re_read_86 rfl ?_
  refine ex_k d_Re_read_87 ?_
  refine ex_eqS [RO ro tp t 24 (.ref ia) (wdA T 20) 0 0 la lb lc, TP G tp T, IMG G ia (fL T / 4) (fun _ => 0), ALo la G.2.2.2.1 0 0, [], PLs 12 (imV T (fL T)) (fun _ => 0) 0, ALo lb G.2.2.2.1 0 0, [], PLs 13 (exW T (fL T) (fM T)) (fun _ => 0) 0, ALo lc G.2.2.2.1 0 0, [], PLs 14 (plW T (fL T) (fM T) (fE T)) (fun _ => 0) 0] rfl ?_
  refine ex_cCF [0, 1, 2] hR (c_Re_offset l G ro tp t 24 ia (fL T / 4) (wdA T 20) 0 0 la lb lc T (fun _ => 0) hTb ht hc5.1 (by omega) true) (eg_invV 0 d_Re_read_88 cd_Re_offset cx_Re_59 rfl rfl List.mem_cons_self rfl rfl) cd_Re_offset rfl rfl (Nat.le_of_ble_eq_true rfl) (by decide) (by decide) (by decide) (by decide) rfl (fun hc6 => ?_) (fun hc6 => ?_)
  rotate_left
  · exact ext_leave [[], TP G tp T, [], [], []] hG (fun _ h => absurd h List.not_mem_nil) (by first | decide | omega) (by first | decide | omega) (eg_dr5 rfl rfl) (Or.inr ⟨fun y => hc6 ⟨by have := (fil_hd y).1; omega, by rw [hof]; exact (fil_hd y).2.2.2.2.2.2.2.2.1⟩, rfl, rfl⟩)
  refine ex_eqS [RO ro tp t 28 (.ref ia) (wdA T 20) 0 0 la lb lc, TP G tp T, IMG G ia (fL T / 4) (fun _ => 0), ALo la G.2.2.2.1 0 0, [], PLs 12 (imV T (fL T)) (fun _ => 0) 0, ALo lb G.2.2.2.1 0 0, [], PLs 13 (exW T (fL T) (fM T)) (fun _ => 0) 0, ALo lc G.2.2.2.1 0 0, [], PLs 14 (plW T (fL T) (fM T) (fE T)) (fun _ => 0) 0] rfl ?_
  refine ex_put1 0 wl_Re_66 d_Re_read_91 rfl rfl rfl (Nat.le_of_ble_eq_true rfl) ?_
  refine ex_al d_Re_read_94 rfl ?_
  refine ex_al d_Re_read_95 rfl ?_
  refine ex_k d_Re_read_96 ?_
  refine ex_il d_Re_read_97 rfl ?_
  refine ex_eqS [RO ro tp t 28 (.ref ia) (wdA T 20) (wdA T 24) 0 la lb lc, TP G tp T, IMG G ia (fL T / 4) (fun _ => 0), ALo la G.2.2.2.1 0 0, [], PLs 12 (imV T (fL T)) (fun _ => 0) 0, ALo lb G.2.2.2.1 0 0, [], PLs 13 (exW T (fL T) (fM T)) (fun _ => 0) 0, ALo lc G.2.2.2.1 0 0, [], PLs 14 (plW T (fL T) (fM T) (fE T)) (fun _ => 0) 0] rfl ?_
  have hgu : filB T t = true → (decide (0 ≤ wdA T 28) && decide (wdA T 28 ≤ wdA T 4)) = true ∧ wdA T 28 - wdA T 28 / 4 * 4 = 0 := fun y => by
    have z := (fil_hd y).2.2.2.2.2.2.2.2.2
    rw [gua_e eL hL2 hL4, Bool.and_eq_true] at z
    exact ⟨z.1, of_decide_eq_true z.2⟩
  refine ex_cCF [0, 1] hR (c_Re_within l G ro tp t 28 (.ref ia) (wdA T 20) (wdA T 24) 0 la lb lc T hTb ht hc6.1 0 (wdA T 4)) (eg_invV 0 d_Re_read_98 cd_Re_within cx_Re_55 rfl rfl List.mem_cons_self rfl rfl) cd_Re_within rfl rfl (Nat.le_of_ble_eq_true rfl) (by decide) (by decide) (by decide) (by decide) rfl (fun hc7 => ?_) (fun hc7 => ?_)
  rotate_left
  · exact ext_leave [[], TP G tp T, [], [], []] hG (fun _ h => absurd h List.not_mem_nil) (by first | decide | omega) (by first | decide | omega) (eg_dr5 rfl rfl) (Or.inr ⟨fun y => hc7 ⟨by have := (fil_hd y).1; omega, (hgu y).1⟩, rfl, rfl⟩)
  refine ex_eqS [RO ro tp t 32 (.ref ia) (wdA T 20) (wdA T 24) 0 la lb lc, TP G tp T, IMG G ia (fL T / 4) (fun _ => 0), ALo la G.2.2.2.1 0 0, [], PLs 12 (imV T (fL T)) (fun _ => 0) 0, ALo lb G.2.2.2.1 0 0, [], PLs 13 (exW T (fL T) (fM T)) (fun _ => 0) 0, ALo lc G.2.2.2.1 0 0, [], PLs 14 (plW T (fL T) (fM T) (fE T)) (fun _ => 0) 0] rfl ?_
  refine ex_put1 0 wl_Re_69 d_Re_read_101 rfl rfl rfl (Nat.le_of_ble_eq_true rfl) ?_
  refine ex_al d_Re_read_104 rfl ?_
  refine ex_al d_Re_read_105 rfl ?_
  refine ex_get1 0 fl_Re_69 d_Re_read_106 rfl rfl ?_
  refine ex_k d_Re_read_109 ?_
  refine ex_irem d_Re_read_110 (by decide) ?_
  refine ex_eqS [RO ro tp t 32 (.ref ia) (wdA T 20) (wdA T 24) (wdA T 28) la lb lc, TP G tp T, IMG G ia (fL T / 4) (fun _ => 0), ALo la G.2.2.2.1 0 0, [], PLs 12 (imV T (fL T)) (fun _ => 0) 0, ALo lb G.2.2.2.1 0 0, [], PLs 13 (exW T (fL T) (fM T)) (fun _ => 0) 0, ALo lc G.2.2.2.1 0 0, [], PLs 14 (plW T (fL T) (fM T) (fE T)) (fun _ => 0) 0] rfl ?_
  refine ex_if_ne d_Re_read_111 (fun z3 => ?_) (fun z3 => ?_)
  · refine ex_k d_Re_read_118 ?_
    refine ex_cCV [] hR (c_Re_need l G ro false) (eg_invV 0 d_Re_read_119 cd_Re_need cx_Re_38 rfl rfl List.mem_cons_self rfl rfl) cd_Re_need rfl rfl (Nat.le_of_ble_eq_true rfl) (by decide) (by decide) (by decide) (by decide) rfl (fun hb => ?_) (fun hb => ?_)
    rotate_left
    · exact ext_leave [[], TP G tp T, [], [], []] hG (fun _ h => absurd h List.not_mem_nil) (by first | decide | omega) (by first | decide | omega) (eg_dr5 rfl rfl) (Or.inr ⟨fun y => z3 (hgu y).2, rfl, rfl⟩)
    exact absurd hb (by decide)
  refine ex_k d_Re_read_114 ?_
  refine ex_goto d_Re_read_115 ?_
  refine ex_cCV [] hR (c_Re_need l G ro true) (eg_invV 0 d_Re_read_119 cd_Re_need cx_Re_38 rfl rfl List.mem_cons_self rfl rfl) cd_Re_need rfl rfl (Nat.le_of_ble_eq_true rfl) (by decide) (by decide) (by decide) (by decide) rfl (fun hb => ?_) (fun hb => ?_)
  rotate_left
  · exact absurd rfl hb
  refine ex_eqS [RO ro tp t 32 (.ref ia) (wdA T 20) (wdA T 24) (wdA T 28) la lb lc, TP G tp T, IMG G ia (fL T / 4) (fun _ => 0), ALo la G.2.2.2.1 0 0, [], PLs 12 (imV T (fL T)) (fun _ => 0) 0, ALo lb G.2.2.2.1 0 0, [], PLs 13 (exW T (fL T) (fM T)) (fun _ => 0) 0, ALo lc G.2.2.2.1 0 0, [], PLs 14 (plW T (fL T) (fM T) (fE T)) (fun _ => 0) 0] rfl ?_
  have H0 : h0B T t = true := by unfold h0B; rw [decide_eq_true (show 32 ≤ t from hc7.1), decide_eq_true z]; rfl
  have H1 := h1_of hc1.2 z2 hc2.2 hc3.2 hc4.2
  have H2 : h2B T = true := by
    unfold h2B
    rw [Bool.and_eq_true, Bool.and_eq_true, gua_e eL hL2 hL4]
    refine ⟨⟨by rw [← hof]; exact hc5.2, by rw [← hof]; exact hc6.2⟩, ?_⟩
    rw [hc7.2, decide_eq_true (show wdA T 28 - wdA T 28 / 4 * 4 = 0 from z3)]
    rfl
  refine ex_k d_Re_read_122 ?_
  refine ex_is d_Re_read_123 (Nat.le_of_ble_eq_true rfl) ?_
  refine ex_eqS [RO ro tp t 32 (.ref ia) (wdA T 20) (wdA T 24) (wdA T 28) la lb lc, TP G tp T, IMG G ia (fL T / 4) (imgF T 0), ALo la G.2.2.2.1 0 0, [], PLs 12 (imV T (fL T)) (fun _ => 0) 0, ALo lb G.2.2.2.1 0 0, [], PLs 13 (exW T (fL T) (fM T)) (fun _ => 0) 0, ALo lc G.2.2.2.1 0 0, [], PLs 14 (plW T (fL T) (fM T) (fE T)) (fun _ => 0) 0] (by rw [imgF_0]) ?_
  exact ex_wide (by omega) (by omega) (J125 ia H0 H1 H2 0 (Nat.zero_le _) hc7.1)
theorem ef_isFile : eg_find "ModuleLoader$Reader" x_IAE 1 [(0, 4, 7, 32)] 7 := ⟨by decide, by decide, Or.inl ⟨by decide +kernel, by decide +kernel, rfl⟩⟩
set_option maxRecDepth 100000 in
theorem c_Re_isFile (l : Launch) (G : eg_G) (ro tp t la lb lc : Nat) (T : Nat → Int32) (hTb : ∀ i, T i &&& 255 = T i) (ht : t ≤ 1200) : Ct l G y_Re_isFile 12 540 7200 [.ref ro] [RO ro tp t 0 .null 0 0 0 la lb lc, TP G tp T, ALo la G.2.2.2.1 0 0, ALo lb G.2.2.2.1 0 0, ALo lc G.2.2.2.1 0 0] (fun o S2 => (filB T t = true ∧ o = .inl (some (.int 1)) ∧ ∃ ia Q, S2 = [RO ro tp t t (.ref ia) (wdA T 20) (wdA T 24) (wdA T 28) la lb lc, TP G tp T, IMG G ia (fL T / 4) (imgF T (fL T / 4)), Q] ∧ FQ G Q la lb lc T) ∨ (¬ filB T t = true ∧ o = .inl (some (.int 0)) ∧ S2 = [[], TP G tp T, [], [], []])) := by
  refine Ct.of cd_Re_isFile (eg_catb rfl) (Nat.le_of_ble_eq_true rfl) ?_
  intro Γ hG
  have hR := hG.rm
  show Ex G Γ mu_Re_isFile 0 [some (.ref ro), none] [] [RO ro tp t 0 .null 0 0 0 la lb lc, TP G tp T, ALo la G.2.2.2.1 0 0, ALo lb G.2.2.2.1 0 0, ALo lc G.2.2.2.1 0 0] 0 0
  refine ex_al d_Re_isFile_0 rfl ?_
  refine ex_call [0, 1, 2, 3, 4] hR (c_Re_read l G ro tp t la lb lc T hTb ht) (eg_invV 0 d_Re_isFile_1 cd_Re_read cx_Re_104 rfl rfl List.mem_cons_self rfl rfl) cd_Re_read rfl rfl (Nat.le_of_ble_eq_true rfl) (by decide) (by decide) (by decide) (by decide) (fun v S1 hK1 => ?_) (fun E S1 hK1 => ?_)
  rotate_left
  · rcases hK1 with ⟨-, h1, -⟩ | ⟨hC, h1, rfl⟩
    · cases h1
    · cases h1
      refine ext_catch ef_isFile (fun x => ?_)
      refine ex_as d_Re_isFile_7 (Nat.le_of_ble_eq_true rfl) ?_
      refine ex_k d_Re_isFile_8 ?_
      exact ex_iret [[], TP G tp T, [], [], []] hG d_Re_isFile_9 rfl rfl (by decide) (by decide) (eg_sub.of rfl) (Or.inr ⟨hC, rfl, rfl⟩)
  rcases hK1 with ⟨hC, h1, ia, Q, rfl, hQ⟩ | ⟨-, h1, -⟩
  rotate_left
  · cases h1
  cases h1
  refine ex_goto d_Re_isFile_4 ?_
  refine ex_k d_Re_isFile_10 ?_
  exact ex_iret [RO ro tp t t (.ref ia) (wdA T 20) (wdA T 24) (wdA T 28) la lb lc, TP G tp T, IMG G ia (fL T / 4) (imgF T (fL T / 4)), Q] hG d_Re_isFile_11 rfl rfl (by decide) (by decide) (eg_sub.of (by simp [eg_bk])) (Or.inl ⟨hC, rfl, ia, Q, rfl, hQ⟩)
