/-! THE LOADER, 18: load -/
theorem gu_of {T : Nat → Int32} (h1 : h1B T = true) (h2 : h2B T = true) : ∃ gu, gu ≤ fL T ∧ wdA T 28 = nI gu := by
  obtain ⟨⟨eL, hL1, hL2, hL4⟩, -⟩ := h1B_of h1
  unfold h2B at h2
  rw [Bool.and_eq_true] at h2
  rcases Bool.or_eq_true _ _ |>.mp h2.2 with z | z
  · exact ⟨fL T, Nat.le_refl _, (of_decide_eq_true z).trans eL⟩
  · rw [eL] at z
    obtain ⟨j, hj, e, -⟩ := isWd_of (by omega) z
    exact ⟨j, by omega, e⟩
theorem ex_dis {T : Nat → Int32} (h : rall (exP T) (fE T) = true) : ∀ i i', i < i' → i' < fE T → wdA T (exA (fL T) (fM T) i) ≠ wdA T (exA (fL T) (fM T) i') := fun i i' hi hi' => by
  have := rall_iff.mp h i' hi'
  unfold exP at this
  rw [Bool.and_eq_true] at this
  exact of_decide_eq_true (rall_iff.mp this.2 i hi)
theorem fEq_ld (f : Nat → Int32) : fEq (va_up (frF f) 15 0) (ldF f) := ⟨rfl, rfl, rfl, rfl, rfl, rfl, rfl, rfl⟩
theorem fEq_hd (F T : Nat → Int32) : fEq F (hdF F T) := ⟨rfl, rfl, rfl, rfl, rfl, rfl, rfl, rfl⟩
theorem fEq_fil (F T : Nat → Int32) (t : Nat) : fEq F (filF F T t) := by
  unfold filF
  split
  · exact fEq_hd F T
  · exact fEq.re F
theorem fEq_wr {F F' : Nat → Int32} (h : fEq F F') (u v : Int32) : fEq (va_up (va_up F 17 u) 18 v) (wrF F' (some (u, v))) := ⟨h.1, h.2.1, h.2.2.1, rfl, rfl, h.2.2.2.2.2.1, h.2.2.2.2.2.2.1, h.2.2.2.2.2.2.2⟩
set_option maxRecDepth 100000 in
set_option maxHeartbeats 16000000 in
theorem c_ML_load (l : Launch) (G : eg_G) (x : Nat) (r a : Nat → Nat) (f : Nat → Int32) (g : Nat → Nat → Int32) (pc tr md : Int32) (pl gn n t : Nat) (marks : Int32) (F : Nat → Option Nat) (sa A : Nat → Nat) (PP : va_W) (b k : Nat) (y : Int32) (q : va_W) (mx : Nat → Nat) (Fr : Nat → Option Nat) (T : Nat → Int32) (hr0 : r 0 = a 0) (hI : RI G f g n t sa A k mx Fr PP T) (hT : TB F gn (SL g sa A n)) (hw : ALw G b k (lsF (fun i => A (mx i)) k) q) (v fu : Int32) : Ct l G y_ML_load 14 6600 45000 [.ref x, .int v, .int fu] [LO x r f, MA G a (g 1) (gdB f g) (g 22) pc tr md, SO (r 1) pl gn (nI n) marks, SPl G pl F, SG gn, PP, ALo (r 2) b k y, q, RW G (r 3) Fr, TP G (r 4) T] (oK G x ((ldR f g n t v fu).2.1 0) (some (.int (ldR f g n t v fu).1)) (ldR f g n t v fu).2.1 (ldR f g n t v fu).2.2) := by
  refine Ct.of cd_ML_load (eg_catb rfl) (Nat.le_of_ble_eq_true rfl) ?_
  intro Γ hG
  have hR := hG.rm
  show Ex G Γ mu_ML_load 0 [some (.ref x), some (.int v), some (.int fu), none, none, none, none, none] [] [LO x r f, MA G a (g 1) (gdB f g) (g 22) pc tr md, SO (r 1) pl gn (nI n) marks, SPl G pl F, SG gn, PP, ALo (r 2) b k y, q, RW G (r 3) Fr, TP G (r 4) T] 0 0
  have hM := hI.hM
  have hPS := ri_PS hI
  have hN := ri_names hI
  have hcr : ∀ c : Int32, CR G x (va_up f 0 c) g [LO x r f, MA G a (g 1) (gdB f g) (g 22) pc tr md, SO (r 1) pl gn (nI n) marks, SPl G pl F, SG gn, PP, ALo (r 2) b k y, q, RW G (r 3) Fr, TP G (r 4) T] := fun c => cr_mk hI hr0 hT hw rfl rfl rfl hI.ht hI.ht2 hI.hTb hI.hT rfl rfl (fun _ _ _ => rfl) hM rfl
  have hk := hI.hk
  obtain ⟨lf, hlf⟩ := ri_lists hI
  have hmo : ∀ i, i < k → ∃ vs, (A (mx i), .inr (15, vs)) ∈ PP ∧ vs[0]? = some (.int (g 9 (mx i))) := fun i hi => by
    obtain ⟨⟨nl, -, -, -, hm, -⟩, -⟩ := hlf i hi
    exact ⟨_, hm, rfl⟩
  have hmo1 : ∀ i, i < k → ∃ vs, (A (mx i), .inr (15, vs)) ∈ PP ∧ vs[1]? = some (.int (g 10 (mx i))) := fun i hi => by
    obtain ⟨⟨nl, -, -, -, hm, -⟩, -⟩ := hlf i hi
    exact ⟨_, hm, rfl⟩
  have hown : ∀ s, s < n → ¬ g 7 s < 0 → ∃ vs, (A (g 7 s).toNatClampNeg, .inr (15, vs)) ∈ PP := fun s hs hneg => by
    rcases ri_ow hI hs with ⟨h1, -⟩ | ⟨j, hj, -, -, -, e⟩
    · exact absurd h1 hneg
    · obtain ⟨l0, ⟨nl, -, -, -, hm, -⟩, -⟩ := hI.pool j hj
      rw [e]
      exact ⟨_, hm⟩
  have hAn : ∀ s s', s < n → s' < n → ¬ g 7 s < 0 → ¬ g 7 s' < 0 → A (g 7 s).toNatClampNeg = A (g 7 s').toNatClampNeg → (g 7 s).toNatClampNeg = (g 7 s').toNatClampNeg := fun s s' hs hs' h1 h2 e => by
    rcases ri_ow hI hs with ⟨q, -⟩ | ⟨j, hj, -, -, -, ej⟩
    · exact absurd q h1
    · rcases ri_ow hI hs' with ⟨q, -⟩ | ⟨j', hj', -, -, -, ej'⟩
      · exact absurd q h2
      · rw [ej, ej'] at e ⊢
        exact hI.Ainj j j' hj hj' e
  refine ex_il d_ML_load_0 rfl ?_
  refine ex_cP hR (c_ML_isName l G v) (eg_invS d_ML_load_1 cd_ML_isName cx_ML_76 rfl rfl) cd_ML_isName (Nat.le_of_ble_eq_true rfl) (by decide) (by decide) (by decide) (by decide) rfl ?_
  refine ex_if_eq d_ML_load_4 (fun z => ?_) (fun z => ?_)
  · have hld : ldR f g n t v fu = (0, va_up f 0 1, g) := by rw [ldR, if_neg (by rw [bI_0.mp z]; simp)]
    refine ex_k d_ML_load_22 ?_
    refine ex_cCV [] hR (c_ML_fits l G false) (eg_invS d_ML_load_23 cd_ML_fits cx_ML_80 rfl rfl) cd_ML_fits rfl rfl (Nat.le_of_ble_eq_true rfl) (by decide) (by decide) (by decide) (by decide) rfl (fun hb => ?_) (fun hb => ?_)
    rotate_left
    · exact ext_leave [LO x r f, MA G a (g 1) (gdB f g) (g 22) pc tr md, SO (r 1) pl gn (nI n) marks, SPl G pl F, SG gn, PP, ALo (r 2) b k y, q, RW G (r 3) Fr, TP G (r 4) T] hG (fun _ h => absurd h List.not_mem_nil) (by decide) (by decide) (eg_sub.of rfl) (by rw [hld]; exact ⟨hcr 1, Or.inr (Or.inl ⟨rfl, rfl⟩)⟩)
    exact absurd hb (by decide)
  have hnm : nmB v = true := by cases hb : nmB v with | true => rfl | false => rw [hb] at z; exact absurd rfl z
  refine ex_il d_ML_load_7 rfl ?_
  refine ex_if_lt d_ML_load_8 (fun z1 => ?_) (fun z1 => ?_)
  · have hld : ldR f g n t v fu = (0, va_up f 0 1, g) := by rw [ldR, if_neg (by rw [fuB, decide_eq_false (p := 0 ≤ fu) (Int32.not_le.mpr z1)]; simp)]
    refine ex_k d_ML_load_22 ?_
    refine ex_cCV [] hR (c_ML_fits l G false) (eg_invS d_ML_load_23 cd_ML_fits cx_ML_80 rfl rfl) cd_ML_fits rfl rfl (Nat.le_of_ble_eq_true rfl) (by decide) (by decide) (by decide) (by decide) rfl (fun hb => ?_) (fun hb => ?_)
    rotate_left
    · exact ext_leave [LO x r f, MA G a (g 1) (gdB f g) (g 22) pc tr md, SO (r 1) pl gn (nI n) marks, SPl G pl F, SG gn, PP, ALo (r 2) b k y, q, RW G (r 3) Fr, TP G (r 4) T] hG (fun _ h => absurd h List.not_mem_nil) (by decide) (by decide) (eg_sub.of rfl) (by rw [hld]; exact ⟨hcr 1, Or.inr (Or.inl ⟨rfl, rfl⟩)⟩)
    exact absurd hb (by decide)
  refine ex_il d_ML_load_11 rfl ?_
  refine ex_k d_ML_load_12 ?_
  refine ex_icmp_gt d_ML_load_15 (fun z2 => ?_) (fun z2 => ?_)
  · have hld : ldR f g n t v fu = (0, va_up f 0 1, g) := by rw [ldR, if_neg (by rw [fuB, decide_eq_false (p := fu ≤ 2000) (Int32.not_le.mpr z2)]; simp)]
    refine ex_k d_ML_load_22 ?_
    refine ex_cCV [] hR (c_ML_fits l G false) (eg_invS d_ML_load_23 cd_ML_fits cx_ML_80 rfl rfl) cd_ML_fits rfl rfl (Nat.le_of_ble_eq_true rfl) (by decide) (by decide) (by decide) (by decide) rfl (fun hb => ?_) (fun hb => ?_)
    rotate_left
    · exact ext_leave [LO x r f, MA G a (g 1) (gdB f g) (g 22) pc tr md, SO (r 1) pl gn (nI n) marks, SPl G pl F, SG gn, PP, ALo (r 2) b k y, q, RW G (r 3) Fr, TP G (r 4) T] hG (fun _ h => absurd h List.not_mem_nil) (by decide) (by decide) (eg_sub.of rfl) (by rw [hld]; exact ⟨hcr 1, Or.inr (Or.inl ⟨rfl, rfl⟩)⟩)
    exact absurd hb (by decide)
  have hfu : fuB fu = true := by rw [fuB, decide_eq_true (p := 0 ≤ fu) (Int32.not_lt.mp z1), decide_eq_true (p := fu ≤ 2000) (Int32.not_lt.mp z2)]; rfl
  obtain ⟨fj, hfj, rfl⟩ := fuB_of hfu
  have hldr : ldR f g n t v (nI fj) = ldE (ldM f g n t v fj).1 (ldM f g n t v fj).2 ((frM g).getD 0) := by rw [ldR, if_pos (by rw [hnm, hfu]; rfl), nI_clamp (by omega)]
  refine ex_k d_ML_load_18 ?_
  refine ex_goto d_ML_load_19 ?_
  refine ex_cCV [] hR (c_ML_fits l G true) (eg_invS d_ML_load_23 cd_ML_fits cx_ML_80 rfl rfl) cd_ML_fits rfl rfl (Nat.le_of_ble_eq_true rfl) (by decide) (by decide) (by decide) (by decide) rfl (fun hb => ?_) (fun hb => ?_)
  rotate_left
  · exact absurd rfl hb
  refine ex_eqS [LO x r f, MA G a (g 1) (gdB f g) (g 22) pc tr md, SO (r 1) pl gn (nI n) marks, SPl G pl F, SG gn, PP, ALo (r 2) b k y, q, RW G (r 3) Fr, TP G (r 4) T] rfl ?_
  refine ex_al d_ML_load_26 rfl ?_
  refine ex_cV [0] hR (c_ML_begin l G x r f) (eg_invV 0 d_ML_load_27 cd_ML_begin cx_ML_227 rfl rfl List.mem_cons_self rfl rfl) cd_ML_begin rfl rfl (Nat.le_of_ble_eq_true rfl) (by decide) (by decide) (by decide) (by decide) rfl ?_
  refine ex_eqS [LO x r (frF f), MA G a (g 1) (gdB f g) (g 22) pc tr md, SO (r 1) pl gn (nI n) marks, SPl G pl F, SG gn, PP, ALo (r 2) b k y, q, RW G (r 3) Fr, TP G (r 4) T] rfl ?_
  refine ex_new hR nw_ML_126 d_ML_load_30 (by decide) (by decide) (fun ro => ?_)
  refine ex_eqS [LO x r (frF f), MA G a (g 1) (gdB f g) (g 22) pc tr md, SO (r 1) pl gn (nI n) marks, SPl G pl F, SG gn, PP, ALo (r 2) b k y, q, RW G (r 3) Fr, TP G (r 4) T, [(ro, .inr (11, [.null, .int 0, .int 0, .null, .int 0, .int 0, .int 0, .null, .null, .null]))]] rfl ?_
  refine ex_dup d_ML_load_33 rfl ?_
  refine ex_al d_ML_load_34 rfl ?_
  refine lg 0 fl_ML_36 d_ML_load_35 rfl rfl ?_
  refine ex_al d_ML_load_38 rfl ?_
  refine lg 0 fl_ML_99 d_ML_load_39 rfl rfl ?_
  refine ex_eqT [.int (nI t), .ref (r 4), .ref ro, .ref ro] (by show [Value.int (f 15), _, _, _] = _; rw [hI.ht]) ?_
  refine ex_call [10] hR (c_Re_init l G ro (r 4) t) (eg_invI d_ML_load_42 cd_Re_init rfl rfl tw_583 cx_ML_230 rfl rfl) cd_Re_init rfl rfl (Nat.le_of_ble_eq_true rfl) (by decide) (by decide) (by decide) (by decide) (fun v S1 hK1 => ?_) (fun E S1 hK1 => ?_)
  rotate_left
  · obtain ⟨la, lb, lc, h1, rfl⟩ := hK1
    cases h1
  obtain ⟨la, lb, lc, h1, rfl⟩ := hK1
  cases h1
  refine ex_eqS [LO x r (frF f), MA G a (g 1) (gdB f g) (g 22) pc tr md, SO (r 1) pl gn (nI n) marks, SPl G pl F, SG gn, PP, ALo (r 2) b k y, q, RW G (r 3) Fr, TP G (r 4) T, RO ro (r 4) t 0 .null 0 0 0 la lb lc, ALo la G.2.2.2.1 0 0, ALo lb G.2.2.2.1 0 0, ALo lc G.2.2.2.1 0 0] rfl ?_
  refine ex_as d_ML_load_45 (Nat.le_of_ble_eq_true rfl) ?_
  refine ex_al d_ML_load_46 rfl ?_
  refine ex_k d_ML_load_47 ?_
  refine lp_15 0 wl_ML_99 d_ML_load_48 rfl ?_
  refine ex_eqS [LO x r (va_up (frF f) 15 0), MA G a (g 1) (gdB f g) (g 22) pc tr md, SO (r 1) pl gn (nI n) marks, SPl G pl F, SG gn, PP, ALo (r 2) b k y, q, RW G (r 3) Fr, TP G (r 4) T, RO ro (r 4) t 0 .null 0 0 0 la lb lc, ALo la G.2.2.2.1 0 0, ALo lb G.2.2.2.1 0 0, ALo lc G.2.2.2.1 0 0] rfl ?_
  have J126 : ∀ (s10 s11 s12 s13 : va_W) (F0 F' : Nat → Int32), ldR f g n t v (nI fj) = (0, F', g) → F' 0 = 2 → fEq F0 F' → fEq (va_up (frF f) 15 0) (va_up (va_up F0 17 0) 18 (-1)) → Ex G Γ mu_ML_load 126 [some (.ref x), some (.int v), some (.int (nI fj)), some (.ref ro), none, none, none, none] [] [LO x r F0, MA G a (g 1) (gdB f g) (g 22) pc tr md, SO (r 1) pl gn (nI n) marks, SPl G pl F, SG gn, PP, ALo (r 2) b k y, q, RW G (r 3) Fr, TP G (r 4) T, s10, s11, s12, s13] 545 7225 := by
    intro s10 s11 s12 s13 F0 F' hres e0 hE hE1
    refine ex_k d_ML_load_126 ?_
    refine ex_is d_ML_load_127 (Nat.le_of_ble_eq_true rfl) ?_
    refine ex_il d_ML_load_129 rfl ?_
    refine ex_cCV [] hR (c_ML_state l G false) (eg_invS d_ML_load_131 cd_ML_state cx_ML_61 rfl rfl) cd_ML_state rfl rfl (Nat.le_of_ble_eq_true rfl) (by decide) (by decide) (by decide) (by decide) rfl (fun hb2 => ?_) (fun hb2 => ?_)
    rotate_left
    · exact ext_leave [LO x r F0, MA G a (g 1) (gdB f g) (g 22) pc tr md, SO (r 1) pl gn (nI n) marks, SPl G pl F, SG gn, PP, ALo (r 2) b k y, q, RW G (r 3) Fr, TP G (r 4) T] hG (fun _ h => absurd h List.not_mem_nil) (by decide) (by decide) (eg_pick [0, 1, 2, 3, 4, 5, 6, 7, 8, 9] rfl rfl) (by
        rw [hres]
        exact ⟨cr_mk hI hr0 hT hw (LO_eq hE).symm (hE.1.trans hE1.1) (hE.2.1.trans hE1.2.1) (hE.2.2.1.trans hE1.2.2.1) (Nat.zero_le _) hI.hTb (fun i hi => absurd hi (Nat.not_lt_zero _)) rfl rfl (fun _ _ _ => rfl) hM rfl, Or.inr (Or.inr ⟨e0, rfl⟩)⟩)
    exact absurd hb2 (by decide)
  refine ex_al d_ML_load_51 rfl ?_
  refine ex_al d_ML_load_52 rfl ?_
  refine ex_call [10, 9, 11, 12, 13] hR (c_Re_isFile l G ro (r 4) t la lb lc T hI.hTb hI.ht2) (eg_invV 10 d_ML_load_53 cd_Re_isFile cx_ML_233 rfl rfl List.mem_cons_self rfl rfl) cd_Re_isFile rfl rfl (Nat.le_of_ble_eq_true rfl) (by decide) (by decide) (by decide) (by decide) (fun v2 S1 hK1 => ?_) (fun E S1 hK1 => ?_)
  rotate_left
  · rcases hK1 with ⟨-, h1, -⟩ | ⟨-, h1, -⟩ <;> cases h1
  rcases hK1 with ⟨hfil, h1, ia, Q, rfl, hQ⟩ | ⟨hfil, h1, rfl⟩
  rotate_left
  · cases h1
    have hfn : filB (g 16) t = false := by
      cases hb : filB (g 16) t with
      | false => rfl
      | true => exact absurd (fil_congr hI.ht2 (fun i hi => (hI.hT i hi).symm) hb).1 hfil
    have hres : ldR f g n t v (nI fj) = (0, wrF (filF (ldF f) (g 16) t) (some (1, -1)), g) := by
      rw [hldr, ldM, if_pos hfn]
      rfl
    refine ex_eqS [LO x r (va_up (frF f) 15 0), MA G a (g 1) (gdB f g) (g 22) pc tr md, SO (r 1) pl gn (nI n) marks, SPl G pl F, SG gn, PP, ALo (r 2) b k y, q, RW G (r 3) Fr, TP G (r 4) T, [], [], [], []] rfl ?_
    refine ex_if_ne d_ML_load_56 (fun z => absurd rfl z) (fun _ => ?_)
    refine ex_k d_ML_load_59 ?_
    refine ex_goto d_ML_load_60 ?_
    refine ex_k d_ML_load_64 ?_
    refine ex_k d_ML_load_65 ?_
    refine ex_cF [0] hR (c_ML_fails l G x r (va_up (frF f) 15 0) true 1 (-1)) (eg_invV 0 d_ML_load_66 cd_ML_fails cx_ML_134 rfl rfl List.mem_cons_self rfl rfl) cd_ML_fails rfl rfl (Nat.le_of_ble_eq_true rfl) (by decide) (by decide) (by decide) (by decide) rfl ?_
    refine ex_eqS [LO x r (va_up (va_up (va_up (frF f) 15 0) 17 1) 18 (-1)), MA G a (g 1) (gdB f g) (g 22) pc tr md, SO (r 1) pl gn (nI n) marks, SPl G pl F, SG gn, PP, ALo (r 2) b k y, q, RW G (r 3) Fr, TP G (r 4) T, [], [], [], []] rfl ?_
    refine ex_if_ne d_ML_load_69 (fun _ => ?_) (fun z => absurd z (by decide))
    exact J126 [] [] [] [] _ _ hres (by show filF (ldF f) (g 16) t 0 = 2; unfold filF; split <;> rfl) (fEq_wr ((fEq_ld f).tr (fEq_fil _ _ _)) 1 (-1)) (by exact ⟨rfl, rfl, rfl, rfl, rfl, rfl, rfl, rfl⟩)
  cases h1
  have hfl := fil_congr hI.ht2 hI.hT hfil
  obtain ⟨hfu2, eL, eM, eE, eP⟩ := hfl
  obtain ⟨hQ1, hQ2, hQ3, hQi⟩ := FQ_congr hI.ht2 hI.hT hfil hQ
  have hwd := fun {b : Nat} (hb : b + 4 ≤ t) => wd_congr hI.hT hb
  have h32 := (fil_hd hfil).1
  obtain ⟨H0, H1, H2, et, him2, hex2, hpl2⟩ := filB_of hfu2
  obtain ⟨⟨eL4, hL1, hL2, hL4⟩, ⟨eM8, hM8⟩, ⟨eE12, hE8⟩, ⟨eP16, hP24⟩⟩ := h1B_of H1
  obtain ⟨gu, hgu, egu⟩ := gu_of H1 H2
  have hldM : ldM f g n t v fj = (if (tmod g v).isSome = true ∨ frM g = none then (wrF (hdF (ldF f) (g 16)) (some (2, -1)), g) else match imW g n (g 16) (fL (g 16)) (fM (g 16)) with | some p => (wrF (hdF (ldF f) (g 16)) (some p), g) | none => match exV g n (g 16) (fL (g 16)) (fM (g 16)) (fE (g 16)) with | some p => (wrF (hdF (ldF f) (g 16)) (some p), g) | none => ldB (hdF (ldF f) (g 16)) g n v fj) := by rw [ldM, if_neg (by rw [hfu2]; decide)]; rfl
  refine ex_eqS [LO x r (va_up (frF f) 15 0), MA G a (g 1) (gdB f g) (g 22) pc tr md, SO (r 1) pl gn (nI n) marks, SPl G pl F, SG gn, PP, ALo (r 2) b k y, q, RW G (r 3) Fr, TP G (r 4) T, RO ro (r 4) t t (.ref ia) (wdA (g 16) 20) (wdA (g 16) 24) (nI gu) la lb lc, IMG G ia (fL (g 16) / 4) (imgF (g 16) (fL (g 16) / 4)), Q, []] (by rw [← hQi, eL, ← egu, hwd (b := 20) (by omega), hwd (b := 24) (by omega), hwd (b := 28) (by omega)]; rfl) ?_
  refine ex_if_ne d_ML_load_56 (fun _ => ?_) (fun z => absurd z (by decide))
  refine ex_k d_ML_load_63 ?_
  refine ex_k d_ML_load_64 ?_
  refine ex_k d_ML_load_65 ?_
  refine ex_cF [0] hR (c_ML_fails l G x r (va_up (frF f) 15 0) false 1 (-1)) (eg_invV 0 d_ML_load_66 cd_ML_fails cx_ML_134 rfl rfl List.mem_cons_self rfl rfl) cd_ML_fails rfl rfl (Nat.le_of_ble_eq_true rfl) (by decide) (by decide) (by decide) (by decide) rfl ?_
  refine ex_eqS [LO x r (va_up (frF f) 15 0), MA G a (g 1) (gdB f g) (g 22) pc tr md, SO (r 1) pl gn (nI n) marks, SPl G pl F, SG gn, PP, ALo (r 2) b k y, q, RW G (r 3) Fr, TP G (r 4) T, RO ro (r 4) t t (.ref ia) (wdA (g 16) 20) (wdA (g 16) 24) (nI gu) la lb lc, IMG G ia (fL (g 16) / 4) (imgF (g 16) (fL (g 16) / 4)), Q, []] rfl ?_
  refine ex_if_ne d_ML_load_69 (fun z => absurd rfl z) (fun _ => ?_)
  have Jn : (tmod g v).isSome = true ∨ frM g = none → Ex G Γ mu_ML_load 93 [some (.ref x), some (.int v), some (.int (nI fj)), some (.ref ro), none, none, none, none] [.ref x] [LO x r (va_up (frF f) 15 0), MA G a (g 1) (gdB f g) (g 22) pc tr md, SO (r 1) pl gn (nI n) marks, SPl G pl F, SG gn, PP, ALo (r 2) b k y, q, RW G (r 3) Fr, TP G (r 4) T, RO ro (r 4) t t (.ref ia) (wdA (g 16) 20) (wdA (g 16) 24) (nI gu) la lb lc, IMG G ia (fL (g 16) / 4) (imgF (g 16) (fL (g 16) / 4)), Q, []] 545 7225 := by
    intro hbad
    have hres : ldR f g n t v (nI fj) = (0, wrF (hdF (ldF f) (g 16)) (some (2, -1)), g) := by rw [hldr, hldM, if_pos hbad]; rfl
    refine ex_k d_ML_load_93 ?_
    refine ex_goto d_ML_load_94 ?_
    refine ex_k d_ML_load_98 ?_
    refine ex_k d_ML_load_99 ?_
    refine ex_cF [0] hR (c_ML_fails l G x r (va_up (frF f) 15 0) true 2 (-1)) (eg_invV 0 d_ML_load_100 cd_ML_fails cx_ML_134 rfl rfl List.mem_cons_self rfl rfl) cd_ML_fails rfl rfl (Nat.le_of_ble_eq_true rfl) (by decide) (by decide) (by decide) (by decide) rfl ?_
    refine ex_eqS [LO x r (va_up (va_up (va_up (frF f) 15 0) 17 2) 18 (-1)), MA G a (g 1) (gdB f g) (g 22) pc tr md, SO (r 1) pl gn (nI n) marks, SPl G pl F, SG gn, PP, ALo (r 2) b k y, q, RW G (r 3) Fr, TP G (r 4) T, RO ro (r 4) t t (.ref ia) (wdA (g 16) 20) (wdA (g 16) 24) (nI gu) la lb lc, IMG G ia (fL (g 16) / 4) (imgF (g 16) (fL (g 16) / 4)), Q, []] rfl ?_
    refine ex_if_ne d_ML_load_103 (fun _ => ?_) (fun z => absurd z (by decide))
    exact J126 _ _ _ _ _ _ hres rfl (fEq_wr ((fEq_ld f).tr (fEq_hd _ _)) 2 (-1)) (by exact ⟨rfl, rfl, rfl, rfl, rfl, rfl, rfl, rfl⟩)
  refine ex_al d_ML_load_72 rfl ?_
  refine ex_al d_ML_load_73 rfl ?_
  refine ex_il d_ML_load_74 rfl ?_
  refine ex_cF [0, 6, 7, 5] hR (c_ML_find l G x r (va_up (frF f) 15 0) b k y q PP (fun i => A (mx i)) hw hk (fun i => g 9 (mx i)) hmo v) (eg_invV 0 d_ML_load_75 cd_ML_find cx_ML_237 rfl rfl List.mem_cons_self rfl rfl) cd_ML_find rfl rfl (Nat.le_of_ble_eq_true rfl) (by decide) (by decide) (by decide) (by decide) rfl ?_
  refine ex_eqS [LO x r (va_up (frF f) 15 0), MA G a (g 1) (gdB f g) (g 22) pc tr md, SO (r 1) pl gn (nI n) marks, SPl G pl F, SG gn, PP, ALo (r 2) b k y, q, RW G (r 3) Fr, TP G (r 4) T, RO ro (r 4) t t (.ref ia) (wdA (g 16) 20) (wdA (g 16) 24) (nI gu) la lb lc, IMG G ia (fL (g 16) / 4) (imgF (g 16) (fL (g 16) / 4)), Q, []] rfl ?_
  have hfind := ri_find hI v
  cases hs : tfind (fun i => decide (g 9 (mx i) = v)) k with
  | some i =>
    rw [hs] at hfind
    refine ex_ifnonnull (r := some (A (mx i))) d_ML_load_78 (fun a9 z => ?_) (fun z => absurd z (by simp))
    exact Jn (Or.inl (by rw [← hfind]; rfl))
  | none =>
    rw [hs] at hfind
    have htm : tmod g v = none := hfind.symm
    refine ex_ifnonnull (r := none) d_ML_load_78 (fun a9 z => absurd z (by simp)) (fun _ => ?_)
    refine ex_al d_ML_load_81 rfl ?_
    refine ex_get1 0 fl_ML_26 d_ML_load_82 rfl rfl ?_
    refine ex_cF [6] hR (c_AL_size l G (ALo (r 2) b k y) (r 2) b k y List.mem_cons_self) (eg_invV 6 d_ML_load_85 cd_AL_size cx_ML_114 rfl rfl List.mem_cons_self rfl rfl) cd_AL_size rfl rfl (Nat.le_of_ble_eq_true rfl) (by decide) (by decide) (by decide) (by decide) rfl ?_
    refine ex_eqS [LO x r (va_up (frF f) 15 0), MA G a (g 1) (gdB f g) (g 22) pc tr md, SO (r 1) pl gn (nI n) marks, SPl G pl F, SG gn, PP, ALo (r 2) b k y, q, RW G (r 3) Fr, TP G (r 4) T, RO ro (r 4) t t (.ref ia) (wdA (g 16) 20) (wdA (g 16) 24) (nI gu) la lb lc, IMG G ia (fL (g 16) / 4) (imgF (g 16) (fL (g 16) / 4)), Q, []] rfl ?_
    refine ex_k d_ML_load_88 ?_
    refine ex_icmp_ne d_ML_load_90 (fun z => ?_) (fun z => ?_)
    rotate_left
    · exact Jn (Or.inr ((frM_k hI).mpr ((nI_eq (by omega) (by decide)).mp z)))
    have hfr : ¬ frM g = none := fun w => z (by rw [(frM_k hI).mp w]; rfl)
    obtain ⟨m0, hm0⟩ : ∃ m0, frM g = some m0 := by
      cases hq : frM g with
      | none => exact absurd hq hfr
      | some m0 => exact ⟨m0, rfl⟩
    have hm12 := (tfind_lt hm0).1
    have hm8 : g 8 m0 = 0 := of_decide_eq_true (tfind_lt hm0).2.1
    rw [if_neg (fun w => w.elim (by rw [htm]; simp) hfr)] at hldM
    refine ex_k d_ML_load_97 ?_
    refine ex_k d_ML_load_98 ?_
    refine ex_k d_ML_load_99 ?_
    refine ex_cF [0] hR (c_ML_fails l G x r (va_up (frF f) 15 0) false 2 (-1)) (eg_invV 0 d_ML_load_100 cd_ML_fails cx_ML_134 rfl rfl List.mem_cons_self rfl rfl) cd_ML_fails rfl rfl (Nat.le_of_ble_eq_true rfl) (by decide) (by decide) (by decide) (by decide) rfl ?_
    refine ex_eqS [LO x r (va_up (frF f) 15 0), MA G a (g 1) (gdB f g) (g 22) pc tr md, SO (r 1) pl gn (nI n) marks, SPl G pl F, SG gn, PP, ALo (r 2) b k y, q, RW G (r 3) Fr, TP G (r 4) T, RO ro (r 4) t t (.ref ia) (wdA (g 16) 20) (wdA (g 16) 24) (nI gu) la lb lc, IMG G ia (fL (g 16) / 4) (imgF (g 16) (fL (g 16) / 4)), Q, []] rfl ?_
    refine ex_if_ne d_ML_load_103 (fun z => absurd rfl z) (fun _ => ?_)
    refine ex_al d_ML_load_106 rfl ?_
    refine ex_al d_ML_load_107 rfl ?_
    refine ex_cF [0, 2, 3, 4, 5, 10, 12] hR (c_ML_areImports l G x r (va_up (frF f) 15 0) pl gn n marks F g sa A PP hT hPS hN ro (r 4) t t ia (wdA (g 16) 20) (wdA (g 16) 24) (nI gu) la lb lc (g 16) Q (fL (g 16)) (fM (g 16)) (fE (g 16)) hM8 hQ1) (eg_invV 0 d_ML_load_108 cd_ML_areImports cx_ML_240 rfl rfl List.mem_cons_self rfl rfl) cd_ML_areImports rfl rfl (Nat.le_of_ble_eq_true rfl) (by decide) (by decide) (by decide) (by decide) rfl ?_
    refine ex_eqS [LO x r (wrF (va_up (frF f) 15 0) (imW g n (g 16) (fL (g 16)) (fM (g 16)))), MA G a (g 1) (gdB f g) (g 22) pc tr md, SO (r 1) pl gn (nI n) marks, SPl G pl F, SG gn, PP, ALo (r 2) b k y, q, RW G (r 3) Fr, TP G (r 4) T, RO ro (r 4) t t (.ref ia) (wdA (g 16) 20) (wdA (g 16) 24) (nI gu) la lb lc, IMG G ia (fL (g 16) / 4) (imgF (g 16) (fL (g 16) / 4)), Q, []] rfl ?_
    cases him : imW g n (g 16) (fL (g 16)) (fM (g 16)) with
    | some p =>
      rw [him] at hldM
      have hres : ldR f g n t v (nI fj) = (0, wrF (hdF (ldF f) (g 16)) (some p), g) := by
        rw [hldr, hldM]
        show (if p.1 = 0 then _ else _) = _
        rw [if_neg (by rcases imW_k him with w | w <;> rw [w] <;> decide)]
      refine ex_if_eq d_ML_load_111 (fun _ => ?_) (fun z => absurd rfl z)
      exact J126 _ _ _ _ _ _ hres rfl (fEq_wr ((fEq_ld f).tr (fEq_hd _ _)) p.1 p.2) (by exact ⟨rfl, rfl, rfl, rfl, rfl, rfl, rfl, rfl⟩)
    | none =>
      rw [him] at hldM
      refine ex_if_eq d_ML_load_111 (fun z => absurd z (by decide)) (fun _ => ?_)
      refine ex_eqS [LO x r (va_up (frF f) 15 0), MA G a (g 1) (gdB f g) (g 22) pc tr md, SO (r 1) pl gn (nI n) marks, SPl G pl F, SG gn, PP, ALo (r 2) b k y, q, RW G (r 3) Fr, TP G (r 4) T, RO ro (r 4) t t (.ref ia) (wdA (g 16) 20) (wdA (g 16) 24) (nI gu) la lb lc, IMG G ia (fL (g 16) / 4) (imgF (g 16) (fL (g 16) / 4)), Q, []] rfl ?_
      refine ex_al d_ML_load_114 rfl ?_
      refine ex_al d_ML_load_115 rfl ?_
      refine ex_cF [0, 2, 3, 4, 5, 10, 12] hR (c_ML_areExports l G x r (va_up (frF f) 15 0) pl gn n marks F g sa A PP hT hPS hN ro (r 4) t t ia (wdA (g 16) 20) (wdA (g 16) 24) (nI gu) la lb lc (g 16) Q (fL (g 16)) (fM (g 16)) (fE (g 16)) hE8 hI.hn2 hQ2) (eg_invV 0 d_ML_load_116 cd_ML_areExports cx_ML_244 rfl rfl List.mem_cons_self rfl rfl) cd_ML_areExports rfl rfl (Nat.le_of_ble_eq_true rfl) (by decide) (by decide) (by decide) (by decide) rfl ?_
      refine ex_eqS [LO x r (wrF (va_up (frF f) 15 0) (exV g n (g 16) (fL (g 16)) (fM (g 16)) (fE (g 16)))), MA G a (g 1) (gdB f g) (g 22) pc tr md, SO (r 1) pl gn (nI n) marks, SPl G pl F, SG gn, PP, ALo (r 2) b k y, q, RW G (r 3) Fr, TP G (r 4) T, RO ro (r 4) t t (.ref ia) (wdA (g 16) 20) (wdA (g 16) 24) (nI gu) la lb lc, IMG G ia (fL (g 16) / 4) (imgF (g 16) (fL (g 16) / 4)), Q, []] rfl ?_
      cases hev : exV g n (g 16) (fL (g 16)) (fM (g 16)) (fE (g 16)) with
      | some p =>
        rw [hev] at hldM
        have hres : ldR f g n t v (nI fj) = (0, wrF (hdF (ldF f) (g 16)) (some p), g) := by
          rw [hldr, hldM]
          show (if p.1 = 0 then _ else _) = _
          rw [if_neg (by rw [exV_k hev]; decide)]
        refine ex_if_eq d_ML_load_119 (fun _ => ?_) (fun z => absurd rfl z)
        exact J126 _ _ _ _ _ _ hres rfl (fEq_wr ((fEq_ld f).tr (fEq_hd _ _)) p.1 p.2) (by exact ⟨rfl, rfl, rfl, rfl, rfl, rfl, rfl, rfl⟩)
      | none =>
        rw [hev] at hldM
        obtain ⟨hnE, hnew⟩ := exV_n hev
        have hfd : ∀ i, i < fM (g 16) → ∃ s, tsym g n (wdA (g 16) (imA (fL (g 16)) i)) = some s := fun i hi => by
          obtain ⟨s, h1, -⟩ := imW_fd him hi
          exact ⟨s, h1⟩
        refine ex_if_eq d_ML_load_119 (fun z => absurd z (by decide)) (fun _ => ?_)
        refine ex_eqS [LO x r (va_up (frF f) 15 0), MA G a (g 1) (gdB f g) (g 22) pc tr md, SO (r 1) pl gn (nI n) marks, SPl G pl F, SG gn, PP, ALo (r 2) b k y, q, RW G (r 3) Fr, TP G (r 4) T, RO ro (r 4) t t (.ref ia) (wdA (g 16) 20) (wdA (g 16) 24) (nI gu) la lb lc, IMG G ia (fL (g 16) / 4) (imgF (g 16) (fL (g 16) / 4)), Q, []] rfl ?_
        refine ex_k d_ML_load_122 ?_
        refine ex_goto d_ML_load_123 ?_
        refine ex_is d_ML_load_127 (Nat.le_of_ble_eq_true rfl) ?_
        refine ex_il d_ML_load_129 rfl ?_
        refine ex_cCV [] hR (c_ML_state l G true) (eg_invS d_ML_load_131 cd_ML_state cx_ML_61 rfl rfl) cd_ML_state rfl rfl (Nat.le_of_ble_eq_true rfl) (by decide) (by decide) (by decide) (by decide) rfl (fun hb2 => ?_) (fun hb2 => ?_)
        rotate_left
        · exact absurd rfl hb2
        refine ex_eqS [LO x r (va_up (frF f) 15 0), MA G a (g 1) (gdB f g) (g 22) pc tr md, SO (r 1) pl gn (nI n) marks, SPl G pl F, SG gn, PP, ALo (r 2) b k y, q, RW G (r 3) Fr, TP G (r 4) T, RO ro (r 4) t t (.ref ia) (wdA (g 16) 20) (wdA (g 16) 24) (nI gu) la lb lc, IMG G ia (fL (g 16) / 4) (imgF (g 16) (fL (g 16) / 4)), Q, []] rfl ?_
        refine ex_al d_ML_load_134 rfl ?_
        refine ex_k d_ML_load_135 ?_
        refine ex_al d_ML_load_136 rfl ?_
        refine ex_get1 10 fl_ML_175 d_ML_load_137 rfl rfl ?_
        refine ex_alen 11 d_ML_load_140 rfl List.mem_cons_self rfl ?_
        refine ex_imul d_ML_load_141 ?_
        refine ex_eqT [.int (nI (fL (g 16))), .ref x] (by rw [show (4 : Int32) = nI 4 from rfl, pk_mul, show 4 * (fL (g 16) / 4) = fL (g 16) by omega]) ?_
        refine ex_cF [0, 8] hR (c_ML_room l G x r (va_up (frF f) 15 0) Fr (fL (g 16)) (by omega) (by omega)) (eg_invV 0 d_ML_load_142 cd_ML_room cx_ML_247 rfl rfl List.mem_cons_self rfl rfl) cd_ML_room rfl rfl (Nat.le_of_ble_eq_true rfl) (by decide) (by decide) (by decide) (by decide) rfl ?_
        refine ex_eqS [LO x r (va_up (frF f) 15 0), MA G a (g 1) (gdB f g) (g 22) pc tr md, SO (r 1) pl gn (nI n) marks, SPl G pl F, SG gn, PP, ALo (r 2) b k y, q, RW G (r 3) Fr, TP G (r 4) T, RO ro (r 4) t t (.ref ia) (wdA (g 16) 20) (wdA (g 16) 24) (nI gu) la lb lc, IMG G ia (fL (g 16) / 4) (imgF (g 16) (fL (g 16) / 4)), Q, []] rfl ?_
        rw [ri_room hI]
        cases hrw : rwF (rowP g) ((fL (g 16) + 15) / 16) 208 with
        | none =>
          have hrm : roomI g (fR (g 16)) = -1 := by rw [roomI, fR, hrw]
          have hres : ldR f g n t v (nI fj) = (0, wrF (hdF (ldF f) (g 16)) (some (6, -1)), g) := by
            rw [hldr, hldM, ldB, hrm, if_pos (by decide)]
            rfl
          refine ex_is d_ML_load_145 (Nat.le_of_ble_eq_true rfl) ?_
          refine ex_al d_ML_load_147 rfl ?_
          refine ex_il d_ML_load_148 rfl ?_
          refine ex_k d_ML_load_150 ?_
          refine ex_icmp_ne d_ML_load_151 (fun z => absurd rfl z) (fun _ => ?_)
          refine ex_k d_ML_load_154 ?_
          refine ex_goto d_ML_load_155 ?_
          refine ex_k d_ML_load_159 ?_
          refine ex_k d_ML_load_161 ?_
          refine ex_cF [0] hR (c_ML_fails l G x r (va_up (frF f) 15 0) true 6 (-1)) (eg_invV 0 d_ML_load_162 cd_ML_fails cx_ML_134 rfl rfl List.mem_cons_self rfl rfl) cd_ML_fails rfl rfl (Nat.le_of_ble_eq_true rfl) (by decide) (by decide) (by decide) (by decide) rfl ?_
          refine ex_eqS [LO x r (va_up (va_up (va_up (frF f) 15 0) 17 6) 18 (-1)), MA G a (g 1) (gdB f g) (g 22) pc tr md, SO (r 1) pl gn (nI n) marks, SPl G pl F, SG gn, PP, ALo (r 2) b k y, q, RW G (r 3) Fr, TP G (r 4) T, RO ro (r 4) t t (.ref ia) (wdA (g 16) 20) (wdA (g 16) 24) (nI gu) la lb lc, IMG G ia (fL (g 16) / 4) (imgF (g 16) (fL (g 16) / 4)), Q, []] rfl ?_
          refine ex_if_ne d_ML_load_165 (fun _ => ?_) (fun z => absurd z (by decide))
          refine ex_k d_ML_load_172 ?_
          refine ex_cCV [] hR (c_ML_state l G false) (eg_invS d_ML_load_173 cd_ML_state cx_ML_61 rfl rfl) cd_ML_state rfl rfl (Nat.le_of_ble_eq_true rfl) (by decide) (by decide) (by decide) (by decide) rfl (fun hb3 => ?_) (fun hb3 => ?_)
          rotate_left
          · exact ext_leave [LO x r (va_up (va_up (va_up (frF f) 15 0) 17 6) 18 (-1)), MA G a (g 1) (gdB f g) (g 22) pc tr md, SO (r 1) pl gn (nI n) marks, SPl G pl F, SG gn, PP, ALo (r 2) b k y, q, RW G (r 3) Fr, TP G (r 4) T] hG (fun _ h => absurd h List.not_mem_nil) (by decide) (by decide) (eg_pick [0, 1, 2, 3, 4, 5, 6, 7, 8, 9] rfl rfl) (by
              rw [hres]
              exact ⟨cr_mk hI hr0 hT hw rfl rfl rfl rfl (Nat.zero_le _) hI.hTb (fun i hi => absurd hi (Nat.not_lt_zero _)) rfl rfl (fun _ _ _ => rfl) hM rfl, Or.inr (Or.inr ⟨rfl, rfl⟩)⟩)
          exact absurd hb3 (by decide)
        | some kk =>
          obtain ⟨hkk, hNk, hfree⟩ := ri_free hI hrw
          obtain ⟨u, hu⟩ : ∃ u, u = kk + 1 - (fL (g 16) + 15) / 16 := ⟨_, rfl⟩
          have hrm : roomI g (fR (g 16)) = (nI (512 + 16 * u)) := by rw [roomI, fR, hrw, hu]
          have hldB : ldM f g n t v fj = brR (hdF (ldF f) (g 16)) g n (fL (g 16)) (fM (g 16)) (fE (g 16)) (fP (g 16)) m0 (512 + 16 * u) v fj := by
            rw [hldM]
            show ldB _ _ _ _ _ = _
            rw [ldB, hrm, if_neg (nI_pos (by omega)), nI_clamp (by omega), hm0]
            rfl
          show Ex G Γ mu_ML_load 145 _ [.int (nI (kk + 1 - (fL (g 16) + 15) / 16))] _ _ _
          rw [← hu]
          have J207 : ∀ (f3 : Nat → Int32) (g3 : Nat → Nat → Int32) (n3 : Nat) (sa3 A3 : Nat → Nat) (k3 : Nat) (mx3 : Nat → Nat) (Fr3 : Nat → Option Nat) (PP3 : va_W) (F3 : Nat → Option Nat) (m3 : Int32) (b3 : Nat) (y3 : Int32) (q3 s11 : va_W) (j0 : Nat), RI G f3 g3 n3 0 sa3 A3 k3 mx3 Fr3 PP3 T → TB F3 gn (SL g3 sa3 A3 n3) → ALw G b3 k3 (lsF (fun i => A3 (mx3 i)) k3) q3 → j0 < k3 → (∀ j, lv g3 j → j ≠ mx3 j0 → g3 14 (12 * j + mx3 j0) = 0) → f3 0 = 2 → f3 2 = f 2 → f3 15 = 0 → f3 17 = 0 → f3 18 = -1 → f3 19 = 0 → f3 20 = 0 → f3 21 = 0 → f3 27 = wdA (g 16) 20 → g3 10 (mx3 j0) = (nI (512 + 16 * u)) → ldR f g n t v (nI fj) = ldE (brI f3 g3 n3 (mx3 j0) (512 + 16 * u) fj).1 (brI f3 g3 n3 (mx3 j0) (512 + 16 * u) fj).2 (mx3 j0) → Ex G Γ mu_ML_load 207 [some (.ref x), some (.int v), some (.int (nI fj)), some (.ref ro), some (.int 1), some (.int (nI u)), some (.int (nI (512 + 16 * u))), some (.ref (A3 (mx3 j0)))] [] [LO x r (va_up (frF f) 15 0), MA G a (g3 1) (gdB f3 g3) (g3 22) pc tr md, SO (r 1) pl gn (nI n3) m3, SPl G pl F3, SG gn, PP3, ALo (r 2) b3 k3 y3, q3, RW G (r 3) Fr3, TP G (r 4) T, RO ro (r 4) t t (.ref ia) (wdA (g 16) 20) (wdA (g 16) 24) (nI gu) la lb lc, s11, Q, []] 568 8244 := by
            intro f3 g3 n3 sa3 A3 k3 mx3 Fr3 PP3 F3 m3 b3 y3 q3 s11 j0 hI3 hT3 hw3 hj0 hnn e0 e2 e15 e17 e18 e19 e20 e21 e27 hbase hld3
            refine ex_al d_ML_load_207 rfl ?_
            refine ex_get1 10 fl_ML_259 d_ML_load_208 rfl rfl ?_
            refine ex_k d_ML_load_211 ?_
            refine ex_icmp_eq d_ML_load_212 (fun z4 => ?_) (fun z4 => ?_)
            · have hres : ldR f g n t v (nI fj) = (g3 10 (mx3 j0), va_up f3 0 0, g3) := by
                rw [hld3, brI, if_pos (show f3 27 = -1 by rw [e27]; exact z4)]
                show (if f3 17 = 0 then _ else _) = _
                rw [if_pos e17]
              refine ex_il d_ML_load_264 rfl ?_
              exact ex_iret [LO x r (va_up (frF f) 15 0), MA G a (g3 1) (gdB f3 g3) (g3 22) pc tr md, SO (r 1) pl gn (nI n3) m3, SPl G pl F3, SG gn, PP3, ALo (r 2) b3 k3 y3, q3, RW G (r 3) Fr3, TP G (r 4) T] hG d_ML_load_266 rfl rfl (by decide) (by decide) (eg_pick [0, 1, 2, 3, 4, 5, 6, 7, 8, 9] rfl rfl) (by
                rw [hres]
                exact ⟨cr_mk hI3 hr0 hT3 hw3 (LO_7 e2 e15 e17 e18 e19 e20 e21) rfl rfl hI3.ht (Nat.zero_le _) hI3.hTb (fun i hi => absurd hi (Nat.not_lt_zero _)) rfl rfl (fun _ _ _ => rfl) hI3.hM rfl, Or.inl ⟨rfl, by rw [hbase]⟩⟩)
            have z4 : ¬ f3 27 = -1 := by rw [e27]; exact z4
            refine ex_al d_ML_load_215 rfl ?_
            refine ex_il d_ML_load_216 rfl ?_
            refine ex_al d_ML_load_218 rfl ?_
            refine ex_get1 10 fl_ML_259 d_ML_load_219 rfl rfl ?_
            refine ex_iadd d_ML_load_222 ?_
            refine ex_k d_ML_load_223 ?_
            refine ex_k d_ML_load_224 ?_
            refine ex_il d_ML_load_225 rfl ?_
            obtain ⟨m, hmr⟩ : ∃ m, runR f3 g3 ((nI (512 + 16 * u)) + wdA (g 16) 20) 0 0 fj = m := ⟨_, rfl⟩
            have hMm : ∀ i, m.2.2.2.1 i &&& 255 = m.2.2.2.1 i := by rw [← hmr]; exact (mrun_sh (gdB f3 g3) fj 0 (g3 1) (rgS (g3 22) 0 0) _ hI3.hM (rgS_0 _ _ _)).1
            have hbr : brI f3 g3 n3 (mx3 j0) (512 + 16 * u) fj = brE f3 g3 m n3 (mx3 j0) := by rw [brI, if_neg z4, e27, hmr]
            have hk2 : (va_up (va_up (va_up (runF f3 m) 17 (brK m)) 18 (-1)) 3 (nI (remN (gMR g3 m.2.2.2.1 m.2.2.2.2.1) n3 (mx3 j0)))) 0 = 2 := by
              show runF f3 m 0 = 2
              unfold runF runf
              split <;> exact e0
            have J254 : ∀ F0 : Nat → Int32, LO x r F0 = LO x r (va_up (va_up (va_up (runF f3 m) 17 (brK m)) 18 (-1)) 3 (nI (remN (gMR g3 m.2.2.2.1 m.2.2.2.2.1) n3 (mx3 j0)))) → ldR f g n t v (nI fj) = (0, (va_up (va_up (va_up (runF f3 m) 17 (brK m)) 18 (-1)) 3 (nI (remN (gMR g3 m.2.2.2.1 m.2.2.2.2.1) n3 (mx3 j0)))), remG (gMR g3 m.2.2.2.1 m.2.2.2.2.1) n3 (mx3 j0)) → Ex G Γ mu_ML_load 254 [some (.ref x), some (.int v), some (.int (nI fj)), some (.ref ro), some (.int 1), some (.int (nI u)), some (.int (nI (512 + 16 * u))), some (.ref (A3 (mx3 j0)))] [] [LO x r F0, MA G a m.2.2.2.1 (gdB f3 g3) m.2.2.2.2.1 m.2.2.2.2.2 m.2.1 (nI m.2.2.1), SO (r 1) pl gn (nI n3) m3, SPl G pl F3, SG gn, PP3, ALo (r 2) b3 k3 y3, q3, RW G (r 3) Fr3, TP G (r 4) T, RO ro (r 4) t t (.ref ia) (wdA (g 16) 20) (wdA (g 16) 24) (nI gu) la lb lc, s11, Q, []] 6568 44300 := by
              intro F0 hLO hres
              have eg3 : ∀ c, 4 ≤ c → c ≤ 14 → (gMR g3 m.2.2.2.1 m.2.2.2.2.1) c = g3 c := gMR_e _ _
              have hI4 : RI G f3 (gMR g3 m.2.2.2.1 m.2.2.2.2.1) n3 0 sa3 A3 k3 mx3 Fr3 PP3 T := ri_g hI3 rfl hI3.ht (Nat.zero_le _) hI3.hse (by rw [gMR_1]; exact hMm) hI3.hTb (fun i hi => absurd hi (Nat.not_lt_zero _)) eg3
              have el4 : lv (gMR g3 m.2.2.2.1 m.2.2.2.2.1) = lv g3 := by funext j; unfold lv; rw [eg3 8 (by decide) (by decide)]
              refine ex_al d_ML_load_254 rfl ?_
              refine ex_al d_ML_load_255 rfl ?_
              refine ex_eqS [LO x r F0, MA G a ((gMR g3 m.2.2.2.1 m.2.2.2.2.1) 1) (gdB f3 (gMR g3 m.2.2.2.1 m.2.2.2.2.1)) ((gMR g3 m.2.2.2.1 m.2.2.2.2.1) 22) m.2.2.2.2.2 m.2.1 (nI m.2.2.1), SO (r 1) pl gn (nI n3) m3, SPl G pl F3, SG gn, PP3, ALo (r 2) b3 k3 y3, q3, RW G (r 3) Fr3, TP G (r 4) T, RO ro (r 4) t t (.ref ia) (wdA (g 16) 20) (wdA (g 16) 24) (nI gu) la lb lc, s11, Q, []] (by rw [gMR_1, gMR_r, gd_g eg3 rfl]) ?_
              refine ex_call [0, 1, 2, 3, 4, 5, 6, 7, 8] hR (c_ML_leaveR l G x r a f3 (gMR g3 m.2.2.2.1 m.2.2.2.2.1) m.2.2.2.2.2 m.2.1 (nI m.2.2.1) pl gn n3 0 m3 F3 sa3 A3 PP3 b3 k3 y3 q3 mx3 Fr3 T hr0 hI4 (by rw [SL_g eg3]; exact hT3) hw3 F0 (va_up (va_up (va_up (runF f3 m) 17 (brK m)) 18 (-1)) 3 (nI (remN (gMR g3 m.2.2.2.1 m.2.2.2.2.1) n3 (mx3 j0)))) j0 hj0 (fun j hj hne => by rw [eg3 14 (by decide) (by decide)]; exact hnn j (by rw [el4] at hj; exact hj) hne) hLO (by unfold runF runf; split <;> rfl) rfl (by unfold runF runf; split <;> rfl)) (eg_invV 0 d_ML_load_257 cd_ML_leave cx_ML_263 rfl rfl List.mem_cons_self rfl rfl) cd_ML_leave rfl rfl (Nat.le_of_ble_eq_true rfl) (by decide) (by decide) (by decide) (by decide) (fun v S1 hK1 => ?_) (fun E S1 hK1 => ?_)
              rotate_left
              · obtain ⟨pl9, F9, m9, y9, q9, P9, Fr9, n9, h1, rfl, hcr9⟩ := hK1
                cases h1
              obtain ⟨pl9, F9, m9, y9, q9, P9, Fr9, n9, h1, rfl, hcr9⟩ := hK1
              cases h1
              refine ex_k d_ML_load_260 ?_
              refine ex_cCV [] hR (c_ML_state l G false) (eg_invS d_ML_load_261 cd_ML_state cx_ML_61 rfl rfl) cd_ML_state rfl rfl (Nat.le_of_ble_eq_true rfl) (by decide) (by decide) (by decide) (by decide) rfl (fun hb9 => ?_) (fun hb9 => ?_)
              rotate_left
              · exact ext_leave [LO x r F0, MA G a ((gMR g3 m.2.2.2.1 m.2.2.2.2.1) 1) P9 ((gMR g3 m.2.2.2.1 m.2.2.2.2.1) 22) m.2.2.2.2.2 m.2.1 (nI m.2.2.1), SO (r 1) pl9 gn n9 m9, SPl G pl9 F9, SG gn, PP3, ALo (r 2) b3 (k3 - 1) y9, q9, RW G (r 3) Fr9, TP G (r 4) T] hG (fun _ h => absurd h List.not_mem_nil) (by decide) (by decide) (eg_pick [0, 1, 2, 3, 4, 5, 6, 7, 8, 9] rfl rfl) (by
                  rw [hres]
                  exact ⟨hcr9, Or.inr (Or.inr ⟨hk2, rfl⟩)⟩)
              exact absurd hb9 (by decide)
            refine ex_cF [0, 1] hR (c_ML_run l G x r (va_up (frF f) 15 0) a (g3 1) (gdB f3 g3) (g3 22) pc tr md hr0 ((nI (512 + 16 * u)) + wdA (g 16) 20) 0 0 fj hfj hI3.hM m hmr) (eg_invV 0 d_ML_load_226 cd_ML_run cx_ML_262 rfl rfl List.mem_cons_self rfl rfl) cd_ML_run rfl rfl (Nat.le_of_ble_eq_true rfl) (by decide) (by decide) (by decide) (by decide) rfl ?_
            refine ex_eqS [LO x r (rnF (va_up (frF f) 15 0) m), MA G a m.2.2.2.1 (gdB f3 g3) m.2.2.2.2.1 m.2.2.2.2.2 m.2.1 (nI m.2.2.1), SO (r 1) pl gn (nI n3) m3, SPl G pl F3, SG gn, PP3, ALo (r 2) b3 k3 y3, q3, RW G (r 3) Fr3, TP G (r 4) T, RO ro (r 4) t t (.ref ia) (wdA (g 16) 20) (wdA (g 16) 24) (nI gu) la lb lc, s11, Q, []] rfl ?_
            refine ex_if_ne d_ML_load_229 (fun z5 => ?_) (fun z5 => ?_)
            · have hbk : brK m = m.1 := by rw [brK, if_neg z5]
              have hkd : ¬ brK m = 0 := by rw [hbk]; exact z5
              refine ex_wide (by decide) (by decide) (J254 (rnF (va_up (frF f) 15 0) m) ?_ ?_)
              · rw [hbk]
                unfold rnF runF runf
                rw [if_neg z5, if_neg z5]
                exact LO_7 e2 e15 rfl rfl rfl rfl e21
              · rw [hld3, hbr, brE, if_neg hkd]
                show (if brK m = 0 then _ else _) = _
                rw [if_neg hkd]
            refine ex_al d_ML_load_232 rfl ?_
            refine ex_al d_ML_load_233 rfl ?_
            refine lg 0 fl_ML_111 d_ML_load_234 rfl rfl ?_
            rw [rnF_21 _ _ z5]
            refine ex_if_eq d_ML_load_237 (fun z6 => ?_) (fun z6 => ?_)
            · have hbk : brK m = 0 := by rw [brK, if_pos z5, if_pos z6]
              have hres : ldR f g n t v (nI fj) = (g3 10 (mx3 j0), va_up (runF f3 m) 0 0, (gMR g3 m.2.2.2.1 m.2.2.2.2.1)) := by
                rw [hld3, hbr, brE, if_pos hbk]
                show (if runF f3 m 17 = 0 then _ else _) = _
                rw [if_pos (by rw [runF_17]; exact e17)]
                show (gMR g3 m.2.2.2.1 m.2.2.2.2.1 10 (mx3 j0), _) = _
                rw [gMR_e (g := g3) m.2.2.2.1 m.2.2.2.2.1 10 (by decide) (by decide)]
              have hlo : LO x r (rnF (va_up (frF f) 15 0) m) = LO x r (va_up (runF f3 m) 0 0) := by
                unfold rnF runF runf
                rw [if_pos z5, if_pos z5]
                exact LO_7 e2 e15 (e17.trans z5.symm) e18 rfl rfl rfl
              refine ex_k d_ML_load_244 ?_
              refine ex_k d_ML_load_245 ?_
              refine ex_k d_ML_load_247 ?_
              refine ex_cF [0] hR (c_ML_fails l G x r (rnF (va_up (frF f) 15 0) m) false 10 (-1)) (eg_invV 0 d_ML_load_248 cd_ML_fails cx_ML_134 rfl rfl List.mem_cons_self rfl rfl) cd_ML_fails rfl rfl (Nat.le_of_ble_eq_true rfl) (by decide) (by decide) (by decide) (by decide) rfl ?_
              refine ex_eqS [LO x r (rnF (va_up (frF f) 15 0) m), MA G a m.2.2.2.1 (gdB f3 g3) m.2.2.2.2.1 m.2.2.2.2.2 m.2.1 (nI m.2.2.1), SO (r 1) pl gn (nI n3) m3, SPl G pl F3, SG gn, PP3, ALo (r 2) b3 k3 y3, q3, RW G (r 3) Fr3, TP G (r 4) T, RO ro (r 4) t t (.ref ia) (wdA (g 16) 20) (wdA (g 16) 24) (nI gu) la lb lc, s11, Q, []] rfl ?_
              refine ex_if_eq d_ML_load_251 (fun _ => ?_) (fun z => absurd rfl z)
              refine ex_il d_ML_load_264 rfl ?_
              exact ex_iret [LO x r (rnF (va_up (frF f) 15 0) m), MA G a m.2.2.2.1 (gdB f3 g3) m.2.2.2.2.1 m.2.2.2.2.2 m.2.1 (nI m.2.2.1), SO (r 1) pl gn (nI n3) m3, SPl G pl F3, SG gn, PP3, ALo (r 2) b3 k3 y3, q3, RW G (r 3) Fr3, TP G (r 4) T] hG d_ML_load_266 rfl rfl (by decide) (by decide) (eg_pick [0, 1, 2, 3, 4, 5, 6, 7, 8, 9] rfl rfl) (by
                rw [hres]
                exact ⟨cr_mk hI3 hr0 hT3 hw3 hlo (by show runF f3 m 2 = _; unfold runF runf; split <;> rfl) (by show runF f3 m 3 = _; unfold runF runf; split <;> rfl) (by show runF f3 m 15 = _; unfold runF runf; split <;> exact e15) (Nat.zero_le _) hI3.hTb (fun i hi => absurd hi (Nat.not_lt_zero _)) (gMR_1 (g := g3) m.2.2.2.1 m.2.2.2.2.1) (gMR_r (g := g3) m.2.2.2.1 m.2.2.2.2.1) (gMR_e (g := g3) m.2.2.2.1 m.2.2.2.2.1) hMm rfl, Or.inl ⟨rfl, by rw [hbase]⟩⟩)
            have hbk : brK m = 10 := by rw [brK, if_pos z5, if_neg z6]
            refine ex_k d_ML_load_240 ?_
            refine ex_goto d_ML_load_241 ?_
            refine ex_k d_ML_load_245 ?_
            refine ex_k d_ML_load_247 ?_
            refine ex_cF [0] hR (c_ML_fails l G x r (rnF (va_up (frF f) 15 0) m) true 10 (-1)) (eg_invV 0 d_ML_load_248 cd_ML_fails cx_ML_134 rfl rfl List.mem_cons_self rfl rfl) cd_ML_fails rfl rfl (Nat.le_of_ble_eq_true rfl) (by decide) (by decide) (by decide) (by decide) rfl ?_
            refine ex_eqS [LO x r (va_up (va_up (rnF (va_up (frF f) 15 0) m) 17 10) 18 (-1)), MA G a m.2.2.2.1 (gdB f3 g3) m.2.2.2.2.1 m.2.2.2.2.2 m.2.1 (nI m.2.2.1), SO (r 1) pl gn (nI n3) m3, SPl G pl F3, SG gn, PP3, ALo (r 2) b3 k3 y3, q3, RW G (r 3) Fr3, TP G (r 4) T, RO ro (r 4) t t (.ref ia) (wdA (g 16) 20) (wdA (g 16) 24) (nI gu) la lb lc, s11, Q, []] rfl ?_
            refine ex_if_eq d_ML_load_251 (fun z => absurd z (by decide)) (fun _ => ?_)
            refine ex_wide (by decide) (by decide) (J254 (va_up (va_up (rnF (va_up (frF f) 15 0) m) 17 10) 18 (-1)) ?_ ?_)
            · rw [hbk]
              unfold rnF runF runf
              rw [if_pos z5, if_pos z5]
              exact LO_7 e2 e15 rfl rfl rfl rfl rfl
            · rw [hld3, hbr, brE, if_neg (by rw [hbk]; decide)]
              show (if brK m = 0 then _ else _) = _
              rw [if_neg (by rw [hbk]; decide)]
          refine ex_is d_ML_load_145 (Nat.le_of_ble_eq_true rfl) ?_
          refine ex_al d_ML_load_147 rfl ?_
          refine ex_il d_ML_load_148 rfl ?_
          refine ex_k d_ML_load_150 ?_
          refine ex_icmp_ne d_ML_load_151 (fun _ => ?_) (fun z => absurd (show nI u < 0 by rw [z]; decide) (nI_pos (by omega)))
          refine ex_k d_ML_load_158 ?_
          refine ex_k d_ML_load_159 ?_
          refine ex_k d_ML_load_161 ?_
          refine ex_cF [0] hR (c_ML_fails l G x r (va_up (frF f) 15 0) false 6 (-1)) (eg_invV 0 d_ML_load_162 cd_ML_fails cx_ML_134 rfl rfl List.mem_cons_self rfl rfl) cd_ML_fails rfl rfl (Nat.le_of_ble_eq_true rfl) (by decide) (by decide) (by decide) (by decide) rfl ?_
          refine ex_eqS [LO x r (va_up (frF f) 15 0), MA G a (g 1) (gdB f g) (g 22) pc tr md, SO (r 1) pl gn (nI n) marks, SPl G pl F, SG gn, PP, ALo (r 2) b k y, q, RW G (r 3) Fr, TP G (r 4) T, RO ro (r 4) t t (.ref ia) (wdA (g 16) 20) (wdA (g 16) 24) (nI gu) la lb lc, IMG G ia (fL (g 16) / 4) (imgF (g 16) (fL (g 16) / 4)), Q, []] rfl ?_
          refine ex_if_ne d_ML_load_165 (fun z => absurd rfl z) (fun _ => ?_)
          refine ex_k d_ML_load_168 ?_
          refine ex_goto d_ML_load_169 ?_
          refine ex_cCV [] hR (c_ML_state l G true) (eg_invS d_ML_load_173 cd_ML_state cx_ML_61 rfl rfl) cd_ML_state rfl rfl (Nat.le_of_ble_eq_true rfl) (by decide) (by decide) (by decide) (by decide) rfl (fun hb3 => ?_) (fun hb3 => ?_)
          rotate_left
          · exact absurd rfl hb3
          refine ex_eqS [LO x r (va_up (frF f) 15 0), MA G a (g 1) (gdB f g) (g 22) pc tr md, SO (r 1) pl gn (nI n) marks, SPl G pl F, SG gn, PP, ALo (r 2) b k y, q, RW G (r 3) Fr, TP G (r 4) T, RO ro (r 4) t t (.ref ia) (wdA (g 16) 20) (wdA (g 16) 24) (nI gu) la lb lc, IMG G ia (fL (g 16) / 4) (imgF (g 16) (fL (g 16) / 4)), Q, []] rfl ?_
          refine ex_k d_ML_load_176 ?_
          refine ex_k d_ML_load_179 ?_
          refine ex_il d_ML_load_181 rfl ?_
          refine ex_imul d_ML_load_183 ?_
          refine ex_iadd d_ML_load_184 ?_
          refine ex_eqT [.int (nI (512 + 16 * u))] (by rw [show (512 : Int32) = nI 512 from rfl, show (16 : Int32) = nI 16 from rfl, pk_mul, nI_add]) ?_
          refine ex_is d_ML_load_185 (Nat.le_of_ble_eq_true rfl) ?_
          refine ex_al d_ML_load_187 rfl ?_
          refine ex_al d_ML_load_188 rfl ?_
          refine ex_il d_ML_load_189 rfl ?_
          have hplq : ∀ k, k < fP (g 16) → plQ (g 16) (fL (g 16)) (fM (g 16)) (fE (g 16)) k := fun k hk => plQ_of H1 hpl2 hk
          refine ex_call [0, 2, 3, 4, 5, 10, 11, 12] hR (c_ML_mend l G x r (va_up (frF f) 15 0) pl gn n marks F g sa A PP hT hPS hN ro (r 4) t t ia (wdA (g 16) 20) (wdA (g 16) 24) (nI gu) la lb lc (g 16) Q (fL (g 16)) (fM (g 16)) (fE (g 16)) (fP (g 16)) (nI (512 + 16 * u)) hL2 hL4 hM8 hP24 hplq hfd hQ1 hQ3) (eg_invV 0 d_ML_load_191 cd_ML_mend cx_ML_251 rfl rfl List.mem_cons_self rfl rfl) cd_ML_mend rfl rfl (Nat.le_of_ble_eq_true rfl) (by decide) (by decide) (by decide) (by decide) (fun v S1 hK1 => ?_) (fun E S1 hK1 => ?_)
          rotate_left
          · rcases hK1 with ⟨-, h1, -⟩ | ⟨j, -, h1, -⟩ <;> cases h1
          rcases hK1 with ⟨hmn, h1, rfl⟩ | ⟨j, hmn, h1, rfl⟩
          rotate_left
          · cases h1
            refine ex_eqS [LO x r (va_up (va_up (va_up (frF f) 15 0) 17 7) 18 (nI j)), MA G a (g 1) (gdB f g) (g 22) pc tr md, SO (r 1) pl gn (nI n) marks, SPl G pl F, SG gn, PP, ALo (r 2) b k y, q, RW G (r 3) Fr, TP G (r 4) T, RO ro (r 4) t t (.ref ia) (wdA (g 16) 20) (wdA (g 16) 24) (nI gu) la lb lc, IMG G ia (fL (g 16) / 4) (imgF (mnT g n (g 16) (fL (g 16)) (fM (g 16)) (fE (g 16)) (nI (512 + 16 * u)) j) (fL (g 16) / 4)), Q, []] rfl ?_
            have hres : ldR f g n t v (nI fj) = (0, va_up (va_up (hdF (ldF f) (g 16)) 17 7) 18 (nI j), va_up g 16 (mnT g n (g 16) (fL (g 16)) (fM (g 16)) (fE (g 16)) (nI (512 + 16 * u)) j)) := by
              rw [hldr, hldB, brR, hmn]
              rfl
            refine ex_cCV [] hR (c_ML_state l G false) (eg_invS d_ML_load_194 cd_ML_state cx_ML_61 rfl rfl) cd_ML_state rfl rfl (Nat.le_of_ble_eq_true rfl) (by decide) (by decide) (by decide) (by decide) rfl (fun hb4 => ?_) (fun hb4 => ?_)
            rotate_left
            · exact ext_leave [LO x r (va_up (va_up (va_up (frF f) 15 0) 17 7) 18 (nI j)), MA G a (g 1) (gdB f g) (g 22) pc tr md, SO (r 1) pl gn (nI n) marks, SPl G pl F, SG gn, PP, ALo (r 2) b k y, q, RW G (r 3) Fr, TP G (r 4) T] hG (fun _ h => absurd h List.not_mem_nil) (by decide) (by decide) (eg_pick [0, 1, 2, 3, 4, 5, 6, 7, 8, 9] rfl rfl) (by
                rw [hres]
                exact ⟨cr_mk hI hr0 hT hw rfl rfl rfl rfl (Nat.zero_le _) hI.hTb (fun i hi => absurd hi (Nat.not_lt_zero _)) rfl rfl (fun c h1 h2 => va_up_ne _ _ (by omega)) hM rfl, Or.inr (Or.inr ⟨rfl, rfl⟩)⟩)
            exact absurd hb4 (by decide)
          cases h1
          refine ex_eqS [LO x r (va_up (frF f) 15 0), MA G a (g 1) (gdB f g) (g 22) pc tr md, SO (r 1) pl gn (nI n) marks, SPl G pl F, SG gn, PP, ALo (r 2) b k y, q, RW G (r 3) Fr, TP G (r 4) T, RO ro (r 4) t t (.ref ia) (wdA (g 16) 20) (wdA (g 16) 24) (nI gu) la lb lc, IMG G ia (fL (g 16) / 4) (imgF (mnT g n (g 16) (fL (g 16)) (fM (g 16)) (fE (g 16)) (nI (512 + 16 * u)) (fP (g 16))) (fL (g 16) / 4)), Q, []] rfl ?_
          refine ex_cCV [] hR (c_ML_state l G true) (eg_invS d_ML_load_194 cd_ML_state cx_ML_61 rfl rfl) cd_ML_state rfl rfl (Nat.le_of_ble_eq_true rfl) (by decide) (by decide) (by decide) (by decide) rfl (fun hb4 => ?_) (fun hb4 => ?_)
          rotate_left
          · exact absurd rfl hb4
          refine ex_eqS [LO x r (va_up (frF f) 15 0), MA G a (g 1) (gdB f g) (g 22) pc tr md, SO (r 1) pl gn (nI n) marks, SPl G pl F, SG gn, PP, ALo (r 2) b k y, q, RW G (r 3) Fr, TP G (r 4) T, RO ro (r 4) t t (.ref ia) (wdA (g 16) 20) (wdA (g 16) 24) (nI gu) la lb lc, IMG G ia (fL (g 16) / 4) (imgF (mnT g n (g 16) (fL (g 16)) (fM (g 16)) (fE (g 16)) (nI (512 + 16 * u)) (fP (g 16))) (fL (g 16) / 4)), Q, []] rfl ?_
          refine ex_al d_ML_load_197 rfl ?_
          refine ex_al d_ML_load_198 rfl ?_
          refine ex_il d_ML_load_199 rfl ?_
          refine ex_il d_ML_load_200 rfl ?_
          have hUhi : ∀ b, 32 + fL (g 16) ≤ b → wdA (mnT g n (g 16) (fL (g 16)) (fM (g 16)) (fE (g 16)) (nI (512 + 16 * u)) (fP (g 16))) b = wdA (g 16) b := fun b hb => mnT_hi hL2 hL4 hplq _ (Nat.le_refl _) b hb
          have zt := fil_t hfu2 hI.ht2
          have hUb : ∀ i, i < 32 + fL (g 16) → (mnT g n (g 16) (fL (g 16)) (fM (g 16)) (fE (g 16)) (nI (512 + 16 * u)) (fP (g 16))) i &&& 255 = (mnT g n (g 16) (fL (g 16)) (fM (g 16)) (fE (g 16)) (nI (512 + 16 * u)) (fP (g 16))) i := mnT_by (B := 32 + fL (g 16)) (fun i hi => by rw [← hI.hT i (by rw [zt]; unfold plA; omega)]; exact hI.hTb i) _
          have hu0 : u + (fL (g 16) + 15) / 16 ≤ 208 := by omega
          have h4L : 4 * (fL (g 16) / 4) = fL (g 16) := by omega
          refine ex_call [0, 1, 2, 3, 4, 5, 6, 7, 8, 10, 11, 12] hR (c_ML_enter l G x r (va_up (frF f) 15 0) a (g 1) (gdB f g) (g 22) pc tr md hr0 pl gn n marks F g sa A PP hT hPS hN b k y q (fun i => A (mx i)) hw hk (fun i => g 10 (mx i)) hmo1 Fr ro (r 4) t t ia (wdA (g 16) 20) (wdA (g 16) 24) gu la lb lc (g 16) (mnT g n (g 16) (fL (g 16)) (fM (g 16)) (fE (g 16)) (nI (512 + 16 * u)) (fP (g 16))) Q (fL (g 16)) (fM (g 16)) (fE (g 16)) u v hL1 hL2 hM8 hE8 hnE (by omega) (by omega) (by rw [h4L]; exact hu0) hfd hown hAn hQ1 hQ2) (eg_invV 0 d_ML_load_202 cd_ML_enter cx_ML_255 rfl rfl List.mem_cons_self rfl rfl) cd_ML_enter rfl rfl (Nat.le_of_ble_eq_true rfl) (by decide) (by decide) (by decide) (by decide) (fun v2 S1 hK1 => ?_) (fun E S1 hK1 => ?_)
          rotate_left
          · obtain ⟨ma, se, nl, F2, m2, b4, y4, q4, b5, y5, q5, j0, h1, -⟩ := hK1
            cases h1
          obtain ⟨ma, se, nl, F2, m2, b4, y4, q4, b5, y5, q5, j0, h1, rfl, hT2, hw4, hj0, hlo, hhi, hw5, hmf⟩ := hK1
          cases h1
          rw [h4L]
          obtain ⟨PP', hPP'⟩ : ∃ z, z = (PP ++ ((nsL (g 16) (fL (g 16)) (fM (g 16)) (nI (512 + 16 * u)) ma se (fE (g 16))).map syC ++ ([(ma, .inr (15, [.int v, .int (nI (512 + 16 * u)), .int (nI (fL (g 16))), .int (nI gu), .int (wdA (g 16) 24), .int (nI (fE (g 16))), .ref nl]))] ++ (ALo nl b4 (ndL g n (g 16) (fL (g 16)) (fM (g 16))).length y4 ++ q4)))) := ⟨_, rfl⟩
          rw [← hPP']
          have hI0 : RI G (ldF f) g n 0 sa A k mx Fr PP T := ri_g hI rfl rfl (Nat.zero_le _) hI.hse hM hI.hTb (fun i hi => absurd hi (Nat.not_lt_zero _)) (fun _ _ _ => rfl)
          have hI3 := ri_enter (le := wdA (g 16) 24) (w := gu) (PP' := PP') (se := se) hI0 hm12 hm8 hnE hL1 hL2 hgu hu0 (fun r h1 h2 => hfree r (by omega) (by omega)) hUhi (fun i hi => hUb _ (by omega)) hfd (fun i hi => by have := hnew i hi; cases hq : tsym g n (wdA (g 16) (exA (fL (g 16)) (fM (g 16)) i)) with | none => rfl | some s => rw [hq] at this; cases this) (ex_dis hex2) htm hmf hj0 hlo hhi (fun z hz => by rw [hPP']; exact List.mem_append_left _ hz) (fun i hi => by rw [hPP']; exact List.mem_append_right _ (List.mem_append_left _ (List.mem_map.mpr ⟨_, List.mem_map.mpr ⟨i, List.mem_range.mpr hi, rfl⟩, rfl⟩))) (mo_of (nl := nl) (y := y4) (PP := PP') hw4 (by rw [hPP']; exact List.mem_append_right _ (List.mem_append_right _ (List.mem_append_left _ List.mem_cons_self))) (fun z hz => by rw [hPP']; exact List.mem_append_right _ (List.mem_append_right _ (List.mem_append_right _ hz)))) (f' := va_up (hdF (ldF f) (g 16)) 3 (nI (n + fE (g 16)))) rfl rfl rfl
          have hSL3 := SL_enter (E := fE (g 16)) (M := fM (g 16)) (L := fL (g 16)) (nm := v) (le := wdA (g 16) 24) (U := (mnT g n (g 16) (fL (g 16)) (fM (g 16)) (fE (g 16)) (nI (512 + 16 * u)) (fP (g 16)))) (se := se) (ma := ma) (ad := 512 + 16 * u) (gu := nI gu) hI0 hm8 hm12 hUhi
          rw [← hSL3] at hT2
          rw [insF_ls A mx hj0 (fun i hi z => (hI.mlt i hi).2 (by rw [z]; exact hm8))] at hw5
          have hins : insN mx j0 m0 j0 = m0 := by unfold insN; rw [if_neg (by omega), if_pos rfl]
          have hnn3 := br_nn (E := fE (g 16)) (u := 512 + 16 * u) (nm := v) (le := wdA (g 16) 24) (gu := nI gu) hI0 hm12 hm8 hUhi hfd
          have hmem : wrM (g 1) (512 + 16 * u) (imgF (mnT g n (g 16) (fL (g 16)) (fM (g 16)) (fE (g 16)) (nI (512 + 16 * u)) (fP (g 16))) (fL (g 16) / 4)) (fL (g 16) / 4) = (br3 g n (fL (g 16)) (fM (g 16)) (fE (g 16)) m0 (512 + 16 * u) v (nI gu) (wdA (g 16) 24) (mnT g n (g 16) (fL (g 16)) (fM (g 16)) (fE (g 16)) (nI (512 + 16 * u)) (fP (g 16)))) 1 := by
            rw [br3_1, ← cpM_wr (fL (g 16) / 4) (Nat.le_refl _) (fun i hi => hUb i (by omega)), h4L]
          have hgd : gdU (gdB f g) (512 + 16 * u) true gu = gdB (va_up (hdF (ldF f) (g 16)) 3 (nI (n + fE (g 16)))) (br3 g n (fL (g 16)) (fM (g 16)) (fE (g 16)) m0 (512 + 16 * u) v (nI gu) (wdA (g 16) 24) (mnT g n (g 16) (fL (g 16)) (fM (g 16)) (fE (g 16)) (nI (512 + 16 * u)) (fP (g 16)))) := (gd_enter hm12 hm8 (by omega) rfl br3_8 br3_10 br3_12).symm
          refine ex_eqS [LO x r (va_up (frF f) 15 0), MA G a ((br3 g n (fL (g 16)) (fM (g 16)) (fE (g 16)) m0 (512 + 16 * u) v (nI gu) (wdA (g 16) 24) (mnT g n (g 16) (fL (g 16)) (fM (g 16)) (fE (g 16)) (nI (512 + 16 * u)) (fP (g 16)))) 1) (gdB (va_up (hdF (ldF f) (g 16)) 3 (nI (n + fE (g 16)))) (br3 g n (fL (g 16)) (fM (g 16)) (fE (g 16)) m0 (512 + 16 * u) v (nI gu) (wdA (g 16) 24) (mnT g n (g 16) (fL (g 16)) (fM (g 16)) (fE (g 16)) (nI (512 + 16 * u)) (fP (g 16))))) ((br3 g n (fL (g 16)) (fM (g 16)) (fE (g 16)) m0 (512 + 16 * u) v (nI gu) (wdA (g 16) 24) (mnT g n (g 16) (fL (g 16)) (fM (g 16)) (fE (g 16)) (nI (512 + 16 * u)) (fP (g 16)))) 22) pc tr md, SO (r 1) pl gn (nI (n + fE (g 16))) m2, SPl G pl F2, SG gn, PP', ALo (r 2) b5 (k + 1) y5, q5, RW G (r 3) (owF Fr u (some ma) ((fL (g 16) + 15) / 16)), TP G (r 4) T, RO ro (r 4) t t (.ref ia) (wdA (g 16) 20) (wdA (g 16) 24) (nI gu) la lb lc, IMG G ia (fL (g 16) / 4) (imgF (mnT g n (g 16) (fL (g 16)) (fM (g 16)) (fE (g 16)) (nI (512 + 16 * u)) (fP (g 16))) (fL (g 16) / 4)), Q, []] (by rw [← hmem, ← hgd, br3_22]; rfl) ?_
          refine ex_as d_ML_load_205 (Nat.le_of_ble_eq_true rfl) ?_
          refine ex_eqL [some (.ref x), some (.int v), some (.int (nI fj)), some (.ref ro), some (.int 1), some (.int (nI u)), some (.int (nI (512 + 16 * u))), some (.ref ((va_up A m0 ma) ((insN mx j0 m0) j0)))] (by rw [hins, va_up_self]; rfl) ?_
          refine ex_wide (by decide) (by decide) (J207 (va_up (hdF (ldF f) (g 16)) 3 (nI (n + fE (g 16)))) (br3 g n (fL (g 16)) (fM (g 16)) (fE (g 16)) m0 (512 + 16 * u) v (nI gu) (wdA (g 16) 24) (mnT g n (g 16) (fL (g 16)) (fM (g 16)) (fE (g 16)) (nI (512 + 16 * u)) (fP (g 16)))) (n + fE (g 16)) (saU sa se n) (va_up A m0 ma) (k + 1) (insN mx j0 m0) (owF Fr u (some ma) ((fL (g 16) + 15) / 16)) PP' F2 m2 b5 y5 q5 (IMG G ia (fL (g 16) / 4) (imgF (mnT g n (g 16) (fL (g 16)) (fM (g 16)) (fE (g 16)) (nI (512 + 16 * u)) (fP (g 16))) (fL (g 16) / 4))) j0 hI3 hT2 hw5 (by omega) (fun j hj hne => by rw [hins] at hne ⊢; exact hnn3 j hj.1 hne) rfl rfl rfl rfl rfl rfl rfl rfl rfl (by rw [hins, br3_10, pk_us]) ?_)
          rw [hldr, hldB, brR, hmn, hins, ← egu, hm0]
          rfl
  
