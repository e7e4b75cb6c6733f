/-! THE READER, 6: an export is read -/
theorem eg_dr {B : va_W} {S : eg_S} (h : eg_ks S.length [1] = true) (e : eg_pk S [1] = [B]) : eg_sub B S.flatten := by
  have z := eg_pick [1] h e
  rwa [List.flatten_cons, List.flatten_nil, List.append_nil] at z
theorem eg_dr5 {B : va_W} {S : eg_S} (h : eg_ks S.length [1] = true) (e : eg_pk S [1] = [B]) : eg_sub ([([] : va_W), B, [], [], []].flatten) S.flatten := by
  have z := eg_dr h e
  simpa using z
theorem eg_dr6 {B : va_W} {S : eg_S} (h : eg_ks S.length [1] = true) (e : eg_pk S [1] = [B]) : eg_sub ([([] : va_W), B, [], [], [], []].flatten) S.flatten := by
  have z := eg_dr h e
  simpa using z
theorem c_AL_getw (l : Launch) (G : eg_G) (a b len : Nat) (x : Int32) (f : Nat → Option Nat) (q : va_W) (hw : ALw G b len f q) (i : Nat) (hi : i < len) : Ct l G y_AL_get 3 0 0 [.ref a, .int (nI i)] [ALo a b len x, q] (rF (some (va_rf (f i))) [ALo a b len x, q]) := by
  rcases hw with ⟨-, -, h0⟩ | ⟨cap, rfl, hcp, hl⟩
  · omega
  · exact (c_AL_get l G (ALo a b len x ++ ALq G b cap f) a b len cap x f (List.mem_append_left _ List.mem_cons_self) (List.mem_append_right _ List.mem_cons_self) i hi hl (by have := cpO_lt hcp; omega)).cutF (by simp) (by simp)
def exN (T : Nat → Int32) (L M k : Nat) : Bool := rall (fun j => decide (¬ wdA T (exA L M j) = wdA T (exA L M k))) k
def exC (T : Nat → Int32) (t L M N k : Nat) : Prop := exA L M k + 12 ≤ t ∧ nmB (wdA T (exA L M k)) = true ∧ exN T L M k = true ∧ isWd (wdA T (exA L M k + 8)) (nI (4 * N)) = true
set_option maxRecDepth 100000 in
theorem c_Re_export (l : Launch) (G : eg_G) (ro tp t ia N L M k : Nat) (ini exi gua : Int32) (la lb lc : Nat) (T f : Nat → Int32) (hTb : ∀ i, T i &&& 255 = T i) (ht : t ≤ 1200) (hp : (exA L M k) ≤ t) (hN : N ≤ 128) (ae : Nat → Nat) (b : Nat) (x : Int32) (q : va_W) (hw : ALw G b k (lsF ae k) q) (hk : k ≤ 8) : Ct l G y_Re_export 10 16 200 [.ref ro] [RO ro tp t (exA L M k) (.ref ia) ini exi gua la lb lc, TP G tp T, IMG G ia N f, ALo lb b k x, q, (PLs 13 (exW T L M) ae k)] (fun o S2 => (exC T t L M N k ∧ o = .inl none ∧ ∃ e b2 x2 q2, S2 = [RO ro tp t (exA L M k + 12) (.ref ia) ini exi gua la lb lc, TP G tp T, IMG G ia N f, ALo lb b2 (k + 1) x2, q2, (PLs 13 (exW T L M) (va_up ae k e) (k + 1))] ∧ ALw G b2 (k + 1) (lsF (va_up ae k e) (k + 1)) q2) ∨ (¬ exC T t L M N k ∧ o = .inr x_IAE ∧ S2 = [[], TP G tp T, [], [], [], []])) := by
  refine Ct.of cd_Re_export (eg_catb rfl) (Nat.le_of_ble_eq_true rfl) ?_
  intro Γ hG
  have hR := hG.rm
  show Ex G Γ mu_Re_export 0 [some (.ref ro), none, none] [] [RO ro tp t (exA L M k) (.ref ia) ini exi gua la lb lc, TP G tp T, IMG G ia N f, ALo lb b k x, q, (PLs 13 (exW T L M) ae k)] 0 0
  refine ex_al d_Re_export_0 rfl ?_
  refine ex_cCF [0, 1] hR (c_Re_name l G ro tp t (exA L M k) (.ref ia) ini exi gua la lb lc T hTb ht hp) (eg_invV 0 d_Re_export_1 cd_Re_name cx_Re_74 rfl rfl List.mem_cons_self rfl rfl) cd_Re_name rfl rfl (Nat.le_of_ble_eq_true rfl) (by decide) (by decide) (by decide) (by decide) rfl (fun hc => ?_) (fun hc => ?_)
  rotate_left
  · exact ext_leave [[], TP G tp T, [], [], [], []] hG (fun _ h => absurd h List.not_mem_nil) (by first | decide | omega) (by first | decide | omega) (eg_dr6 rfl rfl) (Or.inr ⟨fun y => hc ⟨by have := y.1; omega, y.2.1⟩, rfl, rfl⟩)
  refine ex_eqS [RO ro tp t (exA L M k + 4) (.ref ia) ini exi gua la lb lc, TP G tp T, IMG G ia N f, ALo lb b k x, q, (PLs 13 (exW T L M) ae k)] rfl ?_
  refine ex_is d_Re_export_4 (Nat.le_of_ble_eq_true rfl) ?_
  have hc1 : exA L M k + 4 ≤ t := hc.1
  have J51 : exN T L M k = true → Ex G Γ mu_Re_export 51 [some (.ref ro), some (.int (wdA T (exA L M k))), some (.int (nI k))] [] [RO ro tp t (exA L M k + 4) (.ref ia) ini exi gua la lb lc, TP G tp T, IMG G ia N f, ALo lb b k x, q, (PLs 13 (exW T L M) ae k)] 10 60 := by
    intro hg
    refine ex_al d_Re_export_51 rfl ?_
    refine ex_cCF [0, 1] hR (c_Re_word l G ro tp t (exA L M k + 4) (.ref ia) ini exi gua la lb lc T hTb ht hc1) (eg_invV 0 d_Re_export_52 cd_Re_word cx_Re_42 rfl rfl List.mem_cons_self rfl rfl) cd_Re_word rfl rfl (Nat.le_of_ble_eq_true rfl) (by decide) (by decide) (by decide) (by decide) rfl (fun hc2 => ?_) (fun hc2 => ?_)
    rotate_left
    · exact ext_leave [[], TP G tp T, [], [], [], []] hG (fun _ h => absurd h List.not_mem_nil) (by first | decide | omega) (by first | decide | omega) (eg_dr6 rfl rfl) (Or.inr ⟨fun y => hc2 (by have := y.1; omega), rfl, rfl⟩)
    refine ex_eqS [RO ro tp t (exA L M k + 8) (.ref ia) ini exi gua la lb lc, TP G tp T, IMG G ia N f, ALo lb b k x, q, (PLs 13 (exW T L M) ae k)] rfl ?_
    refine ex_is d_Re_export_55 (Nat.le_of_ble_eq_true rfl) ?_
    refine ex_al d_Re_export_56 rfl ?_
    refine ex_get1 0 fl_Re_18 d_Re_export_57 rfl rfl ?_
    refine ex_new hR nw_Re_98 d_Re_export_60 (by decide) (by decide) (fun e => ?_)
    refine ex_dup d_Re_export_63 rfl ?_
    refine ex_il d_Re_export_64 rfl ?_
    refine ex_il d_Re_export_65 rfl ?_
    refine ex_al d_Re_export_66 rfl ?_
    refine ex_k d_Re_export_67 ?_
    refine ex_cCF [0, 1, 2] hR (c_Re_offset l G ro tp t (exA L M k + 8) ia N ini exi gua la lb lc T f hTb ht hc2 hN false) (eg_invV 0 d_Re_export_68 cd_Re_offset cx_Re_59 rfl rfl List.mem_cons_self rfl rfl) cd_Re_offset rfl rfl (Nat.le_of_ble_eq_true rfl) (by decide) (by decide) (by decide) (by decide) rfl (fun hc3 => ?_) (fun hc3 => ?_)
    rotate_left
    · exact ext_leave [[], TP G tp T, [], [], [], []] hG (fun _ h => absurd h List.not_mem_nil) (by first | decide | omega) (by first | decide | omega) (eg_dr6 rfl rfl) (Or.inr ⟨fun y => hc3 ⟨by have := y.1; omega, y.2.2.2⟩, rfl, rfl⟩)
    refine ex_eqS [RO ro tp t (exA L M k + 12) (.ref ia) ini exi gua la lb lc, TP G tp T, IMG G ia N f, ALo lb b k x, q, (PLs 13 (exW T L M) ae k), [(e, .inr (13, [.int 0, .int 0, .int 0]))]] rfl ?_
    refine ex_cV [6] hR (c_Ep_init l G e (wdA T (exA L M k)) (wdA T (exA L M k + 4)) (wdA T (exA L M k + 8))) (eg_invI d_Re_export_71 cd_Ep_init rfl rfl tw_756 cx_Re_101 rfl rfl) cd_Ep_init rfl rfl (Nat.le_of_ble_eq_true rfl) (by decide) (by decide) (by decide) (by decide) rfl ?_
    refine ex_eqS [RO ro tp t (exA L M k + 12) (.ref ia) ini exi gua la lb lc, TP G tp T, IMG G ia N f, ALo lb b k x, q, (PLs 13 (exW T L M) ae k), [(e, .inr (13, exW T L M k))]] rfl ?_
    refine ex_re [RO ro tp t (exA L M k + 12) (.ref ia) ini exi gua la lb lc, TP G tp T, IMG G ia N f, ALo lb b k x, q, (PLs 13 (exW T L M) (va_up ae k e) (k + 1))] (eg_sub.of (by rw [PLs_s]; simp)) ?_
    refine ex_call [3, 4, 5] hR (c_AL_add1 l G 13 3 "ModuleLoader$Export" F_Ep rfl ca_Ep (PLs 13 (exW T L M) (va_up ae k e) (k + 1)) lb b k x (lsF ae k) q hw (by omega) (lsF_n ae k) PLs_E e (exW T L M k) PLs_y) (eg_invV 3 d_Re_export_74 cd_AL_add1 cx_Re_80 rfl rfl List.mem_cons_self rfl rfl) cd_AL_add1 rfl rfl (Nat.le_of_ble_eq_true rfl) (by decide) (by decide) (by decide) (by decide) (fun v S1 hK1 => ?_) (fun E S1 hK1 => ?_)
    rotate_left
    · obtain ⟨b2, q2, h1, rfl, hw2⟩ := hK1
      cases h1
    obtain ⟨b2, q2, h1, rfl, hw2⟩ := hK1
    cases h1
    refine ex_eqS [RO ro tp t (exA L M k + 12) (.ref ia) ini exi gua la lb lc, TP G tp T, IMG G ia N f, ALo lb b2 (k + 1) (x + 1), q2, (PLs 13 (exW T L M) (va_up ae k e) (k + 1))] rfl ?_
    refine ex_pop d_Re_export_77 rfl ?_
    rw [lsF_s] at hw2
    exact ex_vret [RO ro tp t (exA L M k + 12) (.ref ia) ini exi gua la lb lc, TP G tp T, IMG G ia N f, ALo lb b2 (k + 1) (x + 1), q2, (PLs 13 (exW T L M) (va_up ae k e) (k + 1))] hG d_Re_export_78 rfl (by decide) (by decide) (eg_sub.of rfl) (Or.inl ⟨⟨hc3.1, hc.2, hg, hc3.2⟩, rfl, e, b2, x + 1, q2, rfl, hw2⟩)
  have LL : ∀ j, j ≤ k → rall (fun j => decide (¬ wdA T (exA L M j) = wdA T (exA L M k))) j = true → Ex G Γ mu_Re_export 7 [some (.ref ro), some (.int (wdA T (exA L M k))), some (.int (nI j))] [] [RO ro tp t (exA L M k + 4) (.ref ia) ini exi gua la lb lc, TP G tp T, IMG G ia N f, ALo lb b k x, q, (PLs 13 (exW T L M) ae k)] (2 + j) (12 + 6 * j) := by
    refine eg_down k (fun j hj ih hg => ?_)
    refine ex_il d_Re_export_7 rfl ?_
    refine ex_al d_Re_export_8 rfl ?_
    refine ex_get1 0 fl_Re_18 d_Re_export_9 rfl rfl ?_
    refine ex_cF [3] hR (c_AL_size l G (ALo lb b k x) lb b k x List.mem_cons_self) (eg_invV 3 d_Re_export_12 cd_AL_size cx_Re_92 rfl rfl List.mem_cons_self rfl rfl) cd_AL_size rfl rfl (Nat.le_of_ble_eq_true rfl) (by decide) (by decide) (by omega) (by omega) rfl ?_
    refine ex_eqS [RO ro tp t (exA L M k + 4) (.ref ia) ini exi gua la lb lc, TP G tp T, IMG G ia N f, ALo lb b k x, q, (PLs 13 (exW T L M) ae k)] rfl ?_
    refine ex_icmp_ge d_Re_export_15 (fun z => ?_) (fun z => ?_)
    · have z := le_n (a := k) z
      obtain rfl : j = k := by omega
      refine ex_wide (n' := 10) (k' := 60) (by omega) (by omega) ?_
      exact J51 hg
    · have hlt := lt_n (a := k) z
      refine ex_al d_Re_export_18 rfl ?_
      refine ex_al d_Re_export_19 rfl ?_
      refine ex_get1 0 fl_Re_18 d_Re_export_20 rfl rfl ?_
      refine ex_il d_Re_export_23 rfl ?_
      refine ex_cF [3, 4] hR (c_AL_getw l G lb b k x (lsF ae k) q hw j hlt) (eg_invV 3 d_Re_export_24 cd_AL_get cx_Re_94 rfl rfl List.mem_cons_self rfl rfl) cd_AL_get rfl rfl (Nat.le_of_ble_eq_true rfl) (by decide) (by decide) (by omega) (by omega) rfl ?_
      refine ex_eqS [RO ro tp t (exA L M k + 4) (.ref ia) ini exi gua la lb lc, TP G tp T, IMG G ia N f, ALo lb b k x, q, (PLs 13 (exW T L M) ae k)] rfl ?_
      refine ex_eqT [.ref (ae j), .ref ro] (by rw [lsF_lt _ hlt]; rfl) ?_
      refine ex_cast 5 d_Re_export_27 kl_Re_98 (ci := 13) rfl rfl (PLs_in hlt) ?_
      refine ex_cF [5] hR (c_Ep_name l G (PLs 13 (exW T L M) ae k) (ae j) (wdA T (exA L M j)) (wdA T (exA L M j + 4)) (wdA T (exA L M j + 8)) (PLs_in hlt)) (eg_invV 5 d_Re_export_30 cd_Ep_name cx_Re_100 rfl rfl (PLs_in hlt) rfl rfl) cd_Ep_name rfl rfl (Nat.le_of_ble_eq_true rfl) (by decide) (by decide) (by omega) (by omega) rfl ?_
      refine ex_eqS [RO ro tp t (exA L M k + 4) (.ref ia) ini exi gua la lb lc, TP G tp T, IMG G ia N f, ALo lb b k x, q, (PLs 13 (exW T L M) ae k)] rfl ?_
      refine ex_il d_Re_export_33 rfl ?_
      refine ex_icmp_eq d_Re_export_34 (fun z2 => ?_) (fun z2 => ?_)
      · refine ex_k d_Re_export_41 ?_
        refine ex_cCV [] hR (c_Re_need l G ro false) (eg_invV 0 d_Re_export_42 cd_Re_need cx_Re_38 rfl rfl List.mem_cons_self rfl rfl) cd_Re_need rfl rfl (Nat.le_of_ble_eq_true rfl) (by decide) (by decide) (by omega) (by omega) rfl (fun hb => ?_) (fun hb => ?_)
        rotate_left
        · exact ext_leave [[], TP G tp T, [], [], [], []] hG (fun _ h => absurd h List.not_mem_nil) (by first | decide | omega) (by first | decide | omega) (eg_dr6 rfl rfl) (Or.inr ⟨fun y => of_decide_eq_true (rall_iff.mp y.2.2.1 j hlt) z2, rfl, rfl⟩)
        exact absurd hb (by decide)
      · refine ex_k d_Re_export_37 ?_
        refine ex_goto d_Re_export_38 ?_
        refine ex_cCV [] hR (c_Re_need l G ro true) (eg_invV 0 d_Re_export_42 cd_Re_need cx_Re_38 rfl rfl List.mem_cons_self rfl rfl) cd_Re_need rfl rfl (Nat.le_of_ble_eq_true rfl) (by decide) (by decide) (by omega) (by omega) rfl (fun hb => ?_) (fun hb => ?_)
        rotate_left
        · exact absurd rfl hb
        refine ex_eqS [RO ro tp t (exA L M k + 4) (.ref ia) ini exi gua la lb lc, TP G tp T, IMG G ia N f, ALo lb b k x, q, (PLs 13 (exW T L M) ae k)] rfl ?_
        refine ex_inc d_Re_export_45 rfl ?_
        refine ex_goto d_Re_export_48 ?_
        exact ex_wide (by omega) (by omega) (ih hlt (by rw [rall_s, hg, decide_eq_true z2]; rfl))
  refine ex_k d_Re_export_5 ?_
  refine ex_is d_Re_export_6 (Nat.le_of_ble_eq_true rfl) ?_
  exact LL 0 (Nat.zero_le _) rfl
