/-! THE LOADER, 16: call, unload -/
theorem rnF_2 (f : Nat → Int32) (m : mR) : rnF (frF f) m 2 = f 2 := by unfold rnF; split <;> rfl
theorem rnF_3 (f : Nat → Int32) (m : mR) : rnF (frF f) m 3 = f 3 := by unfold rnF; split <;> rfl
theorem rnF_15 (f : Nat → Int32) (m : mR) : rnF (frF f) m 15 = f 15 := by unfold rnF; split <;> rfl
theorem rnF_21 (f : Nat → Int32) (m : mR) (h : m.1 = 0) : rnF f m 21 = m.2.2.2.2.1 10 := by unfold rnF; rw [if_pos h]; rfl
set_option maxRecDepth 100000 in
set_option maxHeartbeats 2000000 in
theorem c_ML_call (l : Launch) (G : eg_G) (x : Nat) (r a : Nat → Nat) (f : Nat → Int32) (g : Nat → Nat → Int32) (pc tr md : Int32) (pl gn n t : Nat) (marks : Int32) (F : Nat → Option Nat) (sa A : Nat → Nat) (PP : va_W) (b k : Nat) (y : Int32) (q : va_W) (mx : Nat → Nat) (Fr : Nat → Option Nat) (T : Nat → Int32) (hr0 : r 0 = a 0) (hI : RI G f g n t sa A k mx Fr PP T) (hT : TB F gn (SL g sa A n)) (hw : ALw G b k (lsF (fun i => A (mx i)) k) q) (v u w fu : Int32) : Ct l G y_ML_call 14 6010 36100 [.ref x, .int v, .int u, .int w, .int fu] [LO x r f, MA G a (g 1) (gdB f g) (g 22) pc tr md, SO (r 1) pl gn (nI n) marks, SPl G pl F, SG gn, PP, ALo (r 2) b k y, q, RW G (r 3) Fr, TP G (r 4) T] (oK G x ((clR f g n v u w fu).2.1 0) (some (.int (clR f g n v u w fu).1)) (clR f g n v u w fu).2.1 (clR f g n v u w fu).2.2) := by
  refine Ct.of cd_ML_call (eg_catb rfl) (Nat.le_of_ble_eq_true rfl) ?_
  intro Γ hG
  have hR := hG.rm
  show Ex G Γ mu_ML_call 0 [some (.ref x), some (.int v), some (.int u), some (.int w), some (.int fu), none] [] [LO x r f, MA G a (g 1) (gdB f g) (g 22) pc tr md, SO (r 1) pl gn (nI n) marks, SPl G pl F, SG gn, PP, ALo (r 2) b k y, q, RW G (r 3) Fr, TP G (r 4) T] 0 0
  have hM := hI.hM
  have hPS := ri_PS hI
  have hN := ri_names hI
  have hcr : ∀ c : Int32, CR G x (va_up f 0 c) g [LO x r f, MA G a (g 1) (gdB f g) (g 22) pc tr md, SO (r 1) pl gn (nI n) marks, SPl G pl F, SG gn, PP, ALo (r 2) b k y, q, RW G (r 3) Fr, TP G (r 4) T] := fun c => cr_mk hI hr0 hT hw rfl rfl rfl hI.ht hI.ht2 hI.hTb hI.hT rfl rfl (fun _ _ _ => rfl) hM rfl
  refine ex_al d_ML_call_0 rfl ?_
  refine ex_get1 0 fl_ML_19 d_ML_call_1 rfl rfl ?_
  refine ex_il d_ML_call_4 rfl ?_
  refine ex_cF [2, 3, 4, 5] hR (c_Ss_find l G (r 1) pl gn (nI n) marks F (SL g sa A n) PP hT hPS hN v) (eg_invV 2 d_ML_call_5 cd_Ss_find cx_ML_83 rfl rfl List.mem_cons_self rfl rfl) cd_Ss_find rfl rfl (Nat.le_of_ble_eq_true rfl) (by decide) (by decide) (by decide) (by decide) rfl ?_
  refine ex_eqS [LO x r f, MA G a (g 1) (gdB f g) (g 22) pc tr md, SO (r 1) pl gn (nI n) marks, SPl G pl F, SG gn, PP, ALo (r 2) b k y, q, RW G (r 3) Fr, TP G (r 4) T] rfl ?_
  refine ex_asq d_ML_call_8 (Nat.le_of_ble_eq_true rfl) ?_
  rw [sfind_SL]
  cases hs : tsym g n v with
  | none =>
    have hcl : clR f g n v u w fu = (0, va_up f 0 1, g) := by rw [clR, hs]
    refine ex_alq (r := none) d_ML_call_10 rfl ?_
    refine ex_ifnull (r := none) d_ML_call_12 (fun _ => ?_) (fun a9 z => absurd z (by simp))
    refine ex_k d_ML_call_32 ?_
    refine ex_cCV [] hR (c_ML_fits l G false) (eg_invS d_ML_call_33 cd_ML_fits cx_ML_80 rfl rfl) cd_ML_fits rfl rfl (Nat.le_of_ble_eq_true rfl) (by decide) (by decide) (by decide) (by decide) rfl (fun hb => ?_) (fun hb => ?_)
    rotate_left
    · exact ext_leave [LO x r f, MA G a (g 1) (gdB f g) (g 22) pc tr md, SO (r 1) pl gn (nI n) marks, SPl G pl F, SG gn, PP, ALo (r 2) b k y, q, RW G (r 3) Fr, TP G (r 4) T] hG (fun _ h => absurd h List.not_mem_nil) (by decide) (by decide) (eg_sub.of rfl) (by rw [hcl]; exact ⟨hcr 1, Or.inr (Or.inl ⟨rfl, rfl⟩)⟩)
    exact absurd hb (by decide)
  | some s =>
    have hsn := (tfind_lt hs).1
    have hsm := hPS _ (SL_in (g := g) (sa := sa) (A := A) hsn)
    refine ex_alq (r := some (sa s)) d_ML_call_10 rfl ?_
    refine ex_ifnull (r := some (sa s)) d_ML_call_12 (fun z => absurd z (by simp)) (fun a9 z => ?_)
    clear z
    refine ex_eqL [some (.ref x), some (.int v), some (.int u), some (.int w), some (.int fu), some (.ref (sa s))] rfl ?_
    refine ex_il d_ML_call_15 rfl ?_
    refine ex_if_lt d_ML_call_17 (fun z => ?_) (fun z => ?_)
    · have hcl : clR f g n v u w fu = (0, va_up f 0 1, g) := by rw [clR, hs]; show (if fuB fu = true then _ else _) = _; rw [if_neg (by rw [fuB, decide_eq_false (p := 0 ≤ fu) (Int32.not_le.mpr z)]; simp)]
      refine ex_k d_ML_call_32 ?_
      refine ex_cCV [] hR (c_ML_fits l G false) (eg_invS d_ML_call_33 cd_ML_fits cx_ML_80 rfl rfl) cd_ML_fits rfl rfl (Nat.le_of_ble_eq_true rfl) (by decide) (by decide) (by decide) (by decide) rfl (fun hb => ?_) (fun hb => ?_)
      rotate_left
      · exact ext_leave [LO x r f, MA G a (g 1) (gdB f g) (g 22) pc tr md, SO (r 1) pl gn (nI n) marks, SPl G pl F, SG gn, PP, ALo (r 2) b k y, q, RW G (r 3) Fr, TP G (r 4) T] hG (fun _ h => absurd h List.not_mem_nil) (by decide) (by decide) (eg_sub.of rfl) (by rw [hcl]; exact ⟨hcr 1, Or.inr (Or.inl ⟨rfl, rfl⟩)⟩)
      exact absurd hb (by decide)
    refine ex_il d_ML_call_20 rfl ?_
    refine ex_k d_ML_call_22 ?_
    refine ex_icmp_gt d_ML_call_25 (fun z2 => ?_) (fun z2 => ?_)
    · have hcl : clR f g n v u w fu = (0, va_up f 0 1, g) := by rw [clR, hs]; show (if fuB fu = true then _ else _) = _; rw [if_neg (by rw [fuB, decide_eq_false (p := fu ≤ 2000) (Int32.not_le.mpr z2)]; simp)]
      refine ex_k d_ML_call_32 ?_
      refine ex_cCV [] hR (c_ML_fits l G false) (eg_invS d_ML_call_33 cd_ML_fits cx_ML_80 rfl rfl) cd_ML_fits rfl rfl (Nat.le_of_ble_eq_true rfl) (by decide) (by decide) (by decide) (by decide) rfl (fun hb => ?_) (fun hb => ?_)
      rotate_left
      · exact ext_leave [LO x r f, MA G a (g 1) (gdB f g) (g 22) pc tr md, SO (r 1) pl gn (nI n) marks, SPl G pl F, SG gn, PP, ALo (r 2) b k y, q, RW G (r 3) Fr, TP G (r 4) T] hG (fun _ h => absurd h List.not_mem_nil) (by decide) (by decide) (eg_sub.of rfl) (by rw [hcl]; exact ⟨hcr 1, Or.inr (Or.inl ⟨rfl, rfl⟩)⟩)
      exact absurd hb (by decide)
    have hfu : fuB fu = true := by rw [fuB, decide_eq_true (p := 0 ≤ fu) (Int32.not_lt.mp z), decide_eq_true (p := fu ≤ 2000) (Int32.not_lt.mp z2)]; rfl
    obtain ⟨fj, hfj, rfl⟩ := fuB_of hfu
    refine ex_k d_ML_call_28 ?_
    refine ex_goto d_ML_call_29 ?_
    refine ex_cCV [] hR (c_ML_fits l G true) (eg_invS d_ML_call_33 cd_ML_fits cx_ML_80 rfl rfl) cd_ML_fits rfl rfl (Nat.le_of_ble_eq_true rfl) (by decide) (by decide) (by decide) (by decide) rfl (fun hb => ?_) (fun hb => ?_)
    rotate_left
    · exact absurd rfl hb
    refine ex_eqS [LO x r f, MA G a (g 1) (gdB f g) (g 22) pc tr md, SO (r 1) pl gn (nI n) marks, SPl G pl F, SG gn, PP, ALo (r 2) b k y, q, RW G (r 3) Fr, TP G (r 4) T] rfl ?_
    refine ex_al d_ML_call_36 rfl ?_
    refine ex_cV [0] hR (c_ML_begin l G x r f) (eg_invV 0 d_ML_call_37 cd_ML_begin cx_ML_227 rfl rfl List.mem_cons_self rfl rfl) cd_ML_begin rfl rfl (Nat.le_of_ble_eq_true rfl) (by decide) (by decide) (by decide) (by decide) rfl ?_
    refine ex_eqS [LO x r (frF f), MA G a (g 1) (gdB f g) (g 22) pc tr md, SO (r 1) pl gn (nI n) marks, SPl G pl F, SG gn, PP, ALo (r 2) b k y, q, RW G (r 3) Fr, TP G (r 4) T] rfl ?_
    refine ex_al d_ML_call_40 rfl ?_
    refine ex_al d_ML_call_41 rfl ?_
    refine ex_get 5 fl_ML_164 d_ML_call_43 rfl hsm rfl ?_
    refine ex_il d_ML_call_46 rfl ?_
    refine ex_il d_ML_call_47 rfl ?_
    refine ex_il d_ML_call_48 rfl ?_
    obtain ⟨m, hm⟩ : ∃ m, runR f g (g 6 s) u w fj = m := ⟨_, rfl⟩
    have hcl := clR_ok hs hfj hfu hm
    have hMm : ∀ i, m.2.2.2.1 i &&& 255 = m.2.2.2.1 i := by rw [← hm]; exact (mrun_sh (gdB f g) fj 0 (g 1) (rgS (g 22) u w) (g 6 s) hM (rgS_0 _ _ _)).1
    refine ex_cF [0, 1] hR (c_ML_run l G x r (frF f) a (g 1) (gdB f g) (g 22) pc tr md hr0 (g 6 s) u w fj hfj hM m hm) (eg_invV 0 d_ML_call_50 cd_ML_run cx_ML_262 rfl rfl List.mem_cons_self rfl rfl) cd_ML_run rfl rfl (Nat.le_of_ble_eq_true rfl) (by decide) (by decide) (by decide) (by decide) rfl ?_
    refine ex_eqS [LO x r (rnF (frF f) m), MA G a m.2.2.2.1 (gdB f g) m.2.2.2.2.1 m.2.2.2.2.2 m.2.1 (nI m.2.2.1), SO (r 1) pl gn (nI n) marks, SPl G pl F, SG gn, PP, ALo (r 2) b k y, q, RW G (r 3) Fr, TP G (r 4) T] rfl ?_
    refine ex_if_ne d_ML_call_53 (fun z3 => ?_) (fun z3 => ?_)
    · refine ex_k d_ML_call_60 ?_
      refine ex_cCV [] hR (c_ML_state l G false) (eg_invS d_ML_call_61 cd_ML_state cx_ML_61 rfl rfl) cd_ML_state rfl rfl (Nat.le_of_ble_eq_true rfl) (by decide) (by decide) (by decide) (by decide) rfl (fun hb2 => ?_) (fun hb2 => ?_)
      rotate_left
      · exact ext_leave [LO x r (rnF (frF f) m), MA G a m.2.2.2.1 (gdB f g) m.2.2.2.2.1 m.2.2.2.2.2 m.2.1 (nI m.2.2.1), SO (r 1) pl gn (nI n) marks, SPl G pl F, SG gn, PP, ALo (r 2) b k y, q, RW G (r 3) Fr, TP G (r 4) T] hG (fun _ h => absurd h List.not_mem_nil) (by decide) (by decide) (eg_sub.of rfl) (by
          rw [hcl, if_neg z3, if_neg z3]
          exact ⟨cr_mk hI hr0 hT hw (LO_eq (fEq_run f m 2)).symm ((fEq_run f m 2).1.trans (rnF_2 f m)) ((fEq_run f m 2).2.1.trans (rnF_3 f m)) ((fEq_run f m 2).2.2.1.trans ((rnF_15 f m).trans hI.ht)) hI.ht2 hI.hTb (fun i hi => by show T i = gMR g m.2.2.2.1 m.2.2.2.2.1 16 i; rw [gMR_16]; exact hI.hT i hi) (gMR_1 (g := g) m.2.2.2.1 m.2.2.2.2.1) (gMR_r (g := g) m.2.2.2.1 m.2.2.2.2.1) (gMR_e (g := g) m.2.2.2.1 m.2.2.2.2.1) hMm rfl, Or.inr (Or.inr ⟨rfl, rfl⟩)⟩)
      exact absurd hb2 (by decide)
    refine ex_k d_ML_call_56 ?_
    refine ex_goto d_ML_call_57 ?_
    refine ex_cCV [] hR (c_ML_state l G true) (eg_invS d_ML_call_61 cd_ML_state cx_ML_61 rfl rfl) cd_ML_state rfl rfl (Nat.le_of_ble_eq_true rfl) (by decide) (by decide) (by decide) (by decide) rfl (fun hb2 => ?_) (fun hb2 => ?_)
    rotate_left
    · exact absurd rfl hb2
    refine ex_eqS [LO x r (rnF (frF f) m), MA G a m.2.2.2.1 (gdB f g) m.2.2.2.2.1 m.2.2.2.2.2 m.2.1 (nI m.2.2.1), SO (r 1) pl gn (nI n) marks, SPl G pl F, SG gn, PP, ALo (r 2) b k y, q, RW G (r 3) Fr, TP G (r 4) T] rfl ?_
    refine ex_al d_ML_call_64 rfl ?_
    refine lg 0 fl_ML_111 d_ML_call_65 rfl rfl ?_
    exact ex_iret [LO x r (rnF (frF f) m), MA G a m.2.2.2.1 (gdB f g) m.2.2.2.2.1 m.2.2.2.2.2 m.2.1 (nI m.2.2.1), SO (r 1) pl gn (nI n) marks, SPl G pl F, SG gn, PP, ALo (r 2) b k y, q, RW G (r 3) Fr, TP G (r 4) T] hG d_ML_call_68 rfl rfl (by decide) (by decide) (eg_sub.of rfl) (by
      rw [hcl, if_pos z3, if_pos z3]
      exact ⟨cr_mk hI hr0 hT hw (LO_eq (fEq_run f m 0)).symm ((fEq_run f m 0).1.trans (rnF_2 f m)) ((fEq_run f m 0).2.1.trans (rnF_3 f m)) ((fEq_run f m 0).2.2.1.trans ((rnF_15 f m).trans hI.ht)) hI.ht2 hI.hTb (fun i hi => by show T i = gMR g m.2.2.2.1 m.2.2.2.2.1 16 i; rw [gMR_16]; exact hI.hT i hi) (gMR_1 (g := g) m.2.2.2.1 m.2.2.2.2.1) (gMR_r (g := g) m.2.2.2.1 m.2.2.2.2.1) (gMR_e (g := g) m.2.2.2.1 m.2.2.2.2.1) hMm rfl, Or.inl ⟨rfl, by rw [rnF_21 _ _ z3]⟩⟩)
  
set_option maxRecDepth 100000 in
set_option maxHeartbeats 4000000 in
theorem c_ML_unload (l : Launch) (G : eg_G) (x : Nat) (r a : Nat → Nat) (f : Nat → Int32) (g : Nat → Nat → Int32) (pc tr md : Int32) (pl gn n t : Nat) (marks : Int32) (F : Nat → Option Nat) (sa A : Nat → Nat) (PP : va_W) (b k : Nat) (y : Int32) (q : va_W) (mx : Nat → Nat) (Fr : Nat → Option Nat) (T : Nat → Int32) (hr0 : r 0 = a 0) (hI : RI G f g n t sa A k mx Fr PP T) (hT : TB F gn (SL g sa A n)) (hw : ALw G b k (lsF (fun i => A (mx i)) k) q) (v fu : Int32) : Ct l G y_ML_unload 14 6010 36200 [.ref x, .int v, .int fu] [LO x r f, MA G a (g 1) (gdB f g) (g 22) pc tr md, SO (r 1) pl gn (nI n) marks, SPl G pl F, SG gn, PP, ALo (r 2) b k y, q, RW G (r 3) Fr, TP G (r 4) T] (oK G x ((ulR f g n v fu).1 0) none (ulR f g n v fu).1 (ulR f g n v fu).2) := by
  refine Ct.of cd_ML_unload (eg_catb rfl) (Nat.le_of_ble_eq_true rfl) ?_
  intro Γ hG
  have hR := hG.rm
  show Ex G Γ mu_ML_unload 0 [some (.ref x), some (.int v), some (.int fu), none] [] [LO x r f, MA G a (g 1) (gdB f g) (g 22) pc tr md, SO (r 1) pl gn (nI n) marks, SPl G pl F, SG gn, PP, ALo (r 2) b k y, q, RW G (r 3) Fr, TP G (r 4) T] 0 0
  have hM := hI.hM
  have hPS := ri_PS hI
  have hN := ri_names hI
  have hcr : ∀ c : Int32, CR G x (va_up f 0 c) g [LO x r f, MA G a (g 1) (gdB f g) (g 22) pc tr md, SO (r 1) pl gn (nI n) marks, SPl G pl F, SG gn, PP, ALo (r 2) b k y, q, RW G (r 3) Fr, TP G (r 4) T] := fun c => cr_mk hI hr0 hT hw rfl rfl rfl hI.ht hI.ht2 hI.hTb hI.hT rfl rfl (fun _ _ _ => rfl) hM rfl
  have hk := hI.hk
  obtain ⟨lf, hlf⟩ := ri_lists hI
  have hmo : ∀ i, i < k → ∃ vs, (A (mx i), .inr (15, vs)) ∈ PP ∧ vs[0]? = some (.int (g 9 (mx i))) := fun i hi => by
    obtain ⟨⟨nl, -, -, -, hm, -⟩, -⟩ := hlf i hi
    exact ⟨_, hm, rfl⟩
  have hfind := ri_find hI v
  refine ex_al d_ML_unload_0 rfl ?_
  refine ex_il d_ML_unload_1 rfl ?_
  refine ex_cF [0, 6, 7, 5] hR (c_ML_find l G x r f b k y q PP (fun i => A (mx i)) hw hk (fun i => g 9 (mx i)) hmo v) (eg_invV 0 d_ML_unload_2 cd_ML_find cx_ML_237 rfl rfl List.mem_cons_self rfl rfl) cd_ML_find rfl rfl (Nat.le_of_ble_eq_true rfl) (by decide) (by decide) (by decide) (by decide) rfl ?_
  refine ex_eqS [LO x r f, MA G a (g 1) (gdB f g) (g 22) pc tr md, SO (r 1) pl gn (nI n) marks, SPl G pl F, SG gn, PP, ALo (r 2) b k y, q, RW G (r 3) Fr, TP G (r 4) T] rfl ?_
  refine ex_asq d_ML_unload_5 (Nat.le_of_ble_eq_true rfl) ?_
  cases hs : tfind (fun i => decide (g 9 (mx i) = v)) k with
  | none =>
    rw [hs] at hfind
    have hul : ulR f g n v fu = (va_up f 0 1, g) := by rw [ulR, ← hfind]; rfl
    refine ex_alq (r := none) d_ML_unload_6 rfl ?_
    refine ex_ifnull (r := none) d_ML_unload_7 (fun _ => ?_) (fun a9 z => absurd z (by simp))
    refine ex_k d_ML_unload_25 ?_
    refine ex_cCV [] hR (c_ML_fits l G false) (eg_invS d_ML_unload_26 cd_ML_fits cx_ML_80 rfl rfl) cd_ML_fits rfl rfl (Nat.le_of_ble_eq_true rfl) (by decide) (by decide) (by decide) (by decide) rfl (fun hb => ?_) (fun hb => ?_)
    rotate_left
    · exact ext_leave [LO x r f, MA G a (g 1) (gdB f g) (g 22) pc tr md, SO (r 1) pl gn (nI n) marks, SPl G pl F, SG gn, PP, ALo (r 2) b k y, q, RW G (r 3) Fr, TP G (r 4) T] hG (fun _ h => absurd h List.not_mem_nil) (by decide) (by decide) (eg_sub.of rfl) (by rw [hul]; exact ⟨hcr 1, Or.inr (Or.inl ⟨rfl, rfl⟩)⟩)
    exact absurd hb (by decide)
  | some i =>
    rw [hs] at hfind
    have hi := (tfind_lt hs).1
    have hlm := hI.mlt i hi
    have htm : tmod g v = some (mx i) := hfind.symm
    refine ex_alq (r := some (A (mx i))) d_ML_unload_6 rfl ?_
    refine ex_ifnull (r := some (A (mx i))) d_ML_unload_7 (fun z => absurd z (by simp)) (fun a9 z => ?_)
    clear z
    refine ex_eqL [some (.ref x), some (.int v), some (.int fu), some (.ref (A (mx i)))] rfl ?_
    refine ex_il d_ML_unload_10 rfl ?_
    refine ex_if_lt d_ML_unload_11 (fun z => ?_) (fun z => ?_)
    · have hul : ulR f g n v fu = (va_up f 0 1, g) := by rw [ulR, htm]; show (if fuB fu = true then _ else _) = _; rw [if_neg (by rw [fuB, decide_eq_false (p := 0 ≤ fu) (Int32.not_le.mpr z)]; simp)]
      refine ex_k d_ML_unload_25 ?_
      refine ex_cCV [] hR (c_ML_fits l G false) (eg_invS d_ML_unload_26 cd_ML_fits cx_ML_80 rfl rfl) cd_ML_fits rfl rfl (Nat.le_of_ble_eq_true rfl) (by decide) (by decide) (by decide) (by decide) rfl (fun hb => ?_) (fun hb => ?_)
      rotate_left
      · exact ext_leave [LO x r f, MA G a (g 1) (gdB f g) (g 22) pc tr md, SO (r 1) pl gn (nI n) marks, SPl G pl F, SG gn, PP, ALo (r 2) b k y, q, RW G (r 3) Fr, TP G (r 4) T] hG (fun _ h => absurd h List.not_mem_nil) (by decide) (by decide) (eg_sub.of rfl) (by rw [hul]; exact ⟨hcr 1, Or.inr (Or.inl ⟨rfl, rfl⟩)⟩)
      exact absurd hb (by decide)
    refine ex_il d_ML_unload_14 rfl ?_
    refine ex_k d_ML_unload_15 ?_
    refine ex_icmp_gt d_ML_unload_18 (fun z2 => ?_) (fun z2 => ?_)
    · have hul : ulR f g n v fu = (va_up f 0 1, g) := by rw [ulR, htm]; show (if fuB fu = true then _ else _) = _; rw [if_neg (by rw [fuB, decide_eq_false (p := fu ≤ 2000) (Int32.not_le.mpr z2)]; simp)]
      refine ex_k d_ML_unload_25 ?_
      refine ex_cCV [] hR (c_ML_fits l G false) (eg_invS d_ML_unload_26 cd_ML_fits cx_ML_80 rfl rfl) cd_ML_fits rfl rfl (Nat.le_of_ble_eq_true rfl) (by decide) (by decide) (by decide) (by decide) rfl (fun hb => ?_) (fun hb => ?_)
      rotate_left
      · exact ext_leave [LO x r f, MA G a (g 1) (gdB f g) (g 22) pc tr md, SO (r 1) pl gn (nI n) marks, SPl G pl F, SG gn, PP, ALo (r 2) b k y, q, RW G (r 3) Fr, TP G (r 4) T] hG (fun _ h => absurd h List.not_mem_nil) (by decide) (by decide) (eg_sub.of rfl) (by rw [hul]; exact ⟨hcr 1, Or.inr (Or.inl ⟨rfl, rfl⟩)⟩)
      exact absurd hb (by decide)
    have hfu : fuB fu = true := by rw [fuB, decide_eq_true (p := 0 ≤ fu) (Int32.not_lt.mp z), decide_eq_true (p := fu ≤ 2000) (Int32.not_lt.mp z2)]; rfl
    obtain ⟨fj, hfj, rfl⟩ := fuB_of hfu
    have hul : ulR f g n v (nI fj) = ulE (ulM f g (mx i) fj).1 (ulM f g (mx i) fj).2 n (mx i) := by rw [ulR, htm]; show (if fuB (nI fj) = true then _ else _) = _; rw [if_pos hfu, nI_clamp (by omega)]
    obtain ⟨⟨nl, b2, cap, y2, hm, hol, hq⟩, hnd2, hmem2⟩ := hlf i hi
    obtain ⟨u0, s0, w0, h10, h11, h12, hs1, hs2, hws, hu0⟩ := hI.geo _ hlm
    have hun : ∀ i', i' < k → A (mx i') = A (mx i) → i' = i := fun i' hi' e => ri_mxi hI i' i hi' hi (hI.Ainj _ _ (hI.mlt i' hi') hlm e)
    refine ex_k d_ML_unload_21 ?_
    refine ex_goto d_ML_unload_22 ?_
    refine ex_cCV [] hR (c_ML_fits l G true) (eg_invS d_ML_unload_26 cd_ML_fits cx_ML_80 rfl rfl) cd_ML_fits rfl rfl (Nat.le_of_ble_eq_true rfl) (by decide) (by decide) (by decide) (by decide) rfl (fun hb => ?_) (fun hb => ?_)
    rotate_left
    · exact absurd rfl hb
    refine ex_eqS [LO x r f, MA G a (g 1) (gdB f g) (g 22) pc tr md, SO (r 1) pl gn (nI n) marks, SPl G pl F, SG gn, PP, ALo (r 2) b k y, q, RW G (r 3) Fr, TP G (r 4) T] rfl ?_
    refine ex_al d_ML_unload_29 rfl ?_
    refine ex_cV [0] hR (c_ML_begin l G x r f) (eg_invV 0 d_ML_unload_30 cd_ML_begin cx_ML_227 rfl rfl List.mem_cons_self rfl rfl) cd_ML_begin rfl rfl (Nat.le_of_ble_eq_true rfl) (by decide) (by decide) (by decide) (by decide) rfl ?_
    refine ex_eqS [LO x r (frF f), MA G a (g 1) (gdB f g) (g 22) pc tr md, SO (r 1) pl gn (nI n) marks, SPl G pl F, SG gn, PP, ALo (r 2) b k y, q, RW G (r 3) Fr, TP G (r 4) T] rfl ?_
    refine ex_al d_ML_unload_33 rfl ?_
    refine ex_al d_ML_unload_34 rfl ?_
    refine ex_al d_ML_unload_35 rfl ?_
    refine ex_cF [0, 6, 7, 5] hR (c_ML_needed l G x r (frF f) b k y q PP (fun i => A (mx i)) hw hk (fun i => (lf i).length) (fun i => nfL A (lf i)) (fun i hi => ⟨_, rfl, (hlf i hi).1⟩) (fun i hi => nd12 (hlf i hi).2.1 (fun j hj => (((hlf i hi).2.2 j).mp hj).1)) (A (mx i))) (eg_invV 0 d_ML_unload_36 cd_ML_needed cx_ML_266 rfl rfl List.mem_cons_self rfl rfl) cd_ML_needed rfl rfl (Nat.le_of_ble_eq_true rfl) (by decide) (by decide) (by decide) (by decide) rfl ?_
    refine ex_eqS [LO x r (frF f), MA G a (g 1) (gdB f g) (g 22) pc tr md, SO (r 1) pl gn (nI n) marks, SPl G pl F, SG gn, PP, ALo (r 2) b k y, q, RW G (r 3) Fr, TP G (r 4) T] rfl ?_
    rw [ri_ndc hI (fun i hi => (hlf i hi).2.2) hlm]
    have hnb := ndB_cnt hI hlm
    have hrl := rcnt_le (nxP g 3 (mx i)) 12
    refine ex_if_le d_ML_unload_39 (fun z3 => ?_) (fun z3 => ?_)
    rotate_left
    · have hnb1 : ndB g (mx i) = true := by rw [hnb]; exact decide_eq_true (Nat.pos_of_ne_zero (fun e => z3 (by rw [e]; decide)))
      have hul2 : ulR f g n v (nI fj) = (va_up (va_up (va_up (frF (va_up f 0 0)) 17 11) 18 (-1)) 0 2, g) := by rw [hul, ulM, if_pos hnb1]; rfl
      refine ex_k d_ML_unload_42 ?_
      refine ex_goto d_ML_unload_43 ?_
      refine ex_k d_ML_unload_47 ?_
      refine ex_k d_ML_unload_49 ?_
      refine ex_cF [0] hR (c_ML_fails l G x r (frF f) true 11 (-1)) (eg_invV 0 d_ML_unload_50 cd_ML_fails cx_ML_134 rfl rfl List.mem_cons_self rfl rfl) cd_ML_fails rfl rfl (Nat.le_of_ble_eq_true rfl) (by decide) (by decide) (by decide) (by decide) rfl ?_
      refine ex_eqS [LO x r (va_up (va_up (frF f) 17 11) 18 (-1)), MA G a (g 1) (gdB f g) (g 22) pc tr md, SO (r 1) pl gn (nI n) marks, SPl G pl F, SG gn, PP, ALo (r 2) b k y, q, RW G (r 3) Fr, TP G (r 4) T] rfl ?_
      refine ex_if_ne d_ML_unload_53 (fun _ => ?_) (fun z => absurd z (by decide))
      refine ex_k d_ML_unload_60 ?_
      refine ex_cCV [] hR (c_ML_state l G false) (eg_invS d_ML_unload_61 cd_ML_state cx_ML_61 rfl rfl) cd_ML_state rfl rfl (Nat.le_of_ble_eq_true rfl) (by decide) (by decide) (by decide) (by decide) rfl (fun hb2 => ?_) (fun hb2 => ?_)
      rotate_left
      · exact ext_leave [LO x r (va_up (va_up (frF f) 17 11) 18 (-1)), MA G a (g 1) (gdB f g) (g 22) pc tr md, SO (r 1) pl gn (nI n) marks, SPl G pl F, SG gn, PP, ALo (r 2) b k y, q, RW G (r 3) Fr, TP G (r 4) T] hG (fun _ h => absurd h List.not_mem_nil) (by decide) (by decide) (eg_sub.of rfl) (by
          rw [hul2]
          exact ⟨cr_mk hI hr0 hT hw rfl rfl rfl hI.ht hI.ht2 hI.hTb hI.hT rfl rfl (fun _ _ _ => rfl) hM rfl, Or.inr (Or.inr ⟨rfl, rfl⟩)⟩)
      exact absurd hb2 (by decide)
    have hnb0 : ndB g (mx i) = false := by
      rw [hnb]
      refine decide_eq_false (fun e => ?_)
      exact absurd z3 (nI_nle e (by omega))
    have hnn := ndB_no hlm.1 hnb0
    refine ex_k d_ML_unload_46 ?_
    refine ex_k d_ML_unload_47 ?_
    refine ex_k d_ML_unload_49 ?_
    refine ex_cF [0] hR (c_ML_fails l G x r (frF f) false 11 (-1)) (eg_invV 0 d_ML_unload_50 cd_ML_fails cx_ML_134 rfl rfl List.mem_cons_self rfl rfl) cd_ML_fails rfl rfl (Nat.le_of_ble_eq_true rfl) (by decide) (by decide) (by decide) (by decide) rfl ?_
    refine ex_eqS [LO x r (frF f), MA G a (g 1) (gdB f g) (g 22) pc tr md, SO (r 1) pl gn (nI n) marks, SPl G pl F, SG gn, PP, ALo (r 2) b k y, q, RW G (r 3) Fr, TP G (r 4) T] rfl ?_
    refine ex_if_ne d_ML_unload_53 (fun z => absurd rfl z) (fun _ => ?_)
    refine ex_k d_ML_unload_56 ?_
    refine ex_goto d_ML_unload_57 ?_
    refine ex_cCV [] hR (c_ML_state l G true) (eg_invS d_ML_unload_61 cd_ML_state cx_ML_61 rfl rfl) cd_ML_state rfl rfl (Nat.le_of_ble_eq_true rfl) (by decide) (by decide) (by decide) (by decide) rfl (fun hb2 => ?_) (fun hb2 => ?_)
    rotate_left
    · exact absurd rfl hb2
    refine ex_eqS [LO x r (frF f), MA G a (g 1) (gdB f g) (g 22) pc tr md, SO (r 1) pl gn (nI n) marks, SPl G pl F, SG gn, PP, ALo (r 2) b k y, q, RW G (r 3) Fr, TP G (r 4) T] rfl ?_
    have J99 : ∀ (F0 : Nat → Int32) (M' R' : Nat → Int32) (pc' tr' md' : Int32), (∀ i, M' i &&& 255 = M' i) → LO x r F0 = LO x r (ulR f g n v (nI fj)).1 → ulR f g n v (nI fj) = (va_up (va_up (ulM f g (mx i) fj).1 0 0) 3 (nI (remN (gMR g M' R') n (mx i))), remG (gMR g M' R') n (mx i)) → (ulM f g (mx i) fj).1 2 = f 2 → (ulM f g (mx i) fj).1 15 = f 15 → Ex G Γ mu_ML_unload 99 [some (.ref x), some (.int v), some (.int (nI fj)), some (.ref (A (mx i)))] [] [LO x r F0, MA G a M' (gdB f g) R' pc' tr' md', SO (r 1) pl gn (nI n) marks, SPl G pl F, SG gn, PP, ALo (r 2) b k y, q, RW G (r 3) Fr, TP G (r 4) T] 6006 36036 := by
      intro F0 M' R' pc' tr' md' hM' hLO hul3 e2 e15
      have hI' : RI G f (gMR g M' R') n t sa A k mx Fr PP T := ri_g hI rfl hI.ht hI.ht2 hI.hse (by rw [gMR_1]; exact hM') hI.hTb (by rw [gMR_16]; exact hI.hT) (gMR_e _ _)
      have eg' : ∀ c, 4 ≤ c → c ≤ 14 → gMR g M' R' c = g c := gMR_e _ _
      have hSL : SL (gMR g M' R') sa A n = SL g sa A n := SL_g eg'
      refine ex_al d_ML_unload_99 rfl ?_
      refine ex_al d_ML_unload_100 rfl ?_
      refine ex_eqS [LO x r F0, MA G a M' (gdB f g) R' pc' tr' md', SO (r 1) pl gn (nI (SL g sa A n).length) marks, SPl G pl F, SG gn, PP, ALo (r 2) b k y, q, RW G (r 3) Fr, TP G (r 4) T] (by rw [SL_len]) ?_
      refine ex_call [0, 1, 2, 3, 4, 5, 6, 7, 8] hR (c_ML_leave l G x r F0 a M' (gdB f g) R' pc' tr' md' hr0 pl gn marks F (SL g sa A n) PP hT hPS (by rw [SL_len]; exact hI.hn2) b k y q (fun i => A (mx i)) hw hk (fun i hi => by obtain ⟨vs, h1, -⟩ := hmo i hi; exact ⟨vs, h1⟩) Fr (A (mx i)) u0 s0 w0 _ hm (by rw [h10]; rfl) (by rw [h11]; rfl) (by rw [h12]; rfl) hu0 (by omega) i hi rfl hun) (eg_invV 0 d_ML_unload_101 cd_ML_leave cx_ML_263 rfl rfl List.mem_cons_self rfl rfl) cd_ML_leave rfl rfl (Nat.le_of_ble_eq_true rfl) (by decide) (by decide) (by decide) (by decide) (fun v S1 hK1 => ?_) (fun E S1 hK1 => ?_)
      rotate_left
      · obtain ⟨pl2, F2, m2, y9, q9, h1, rfl, hT2, hw2⟩ := hK1
        cases h1
      obtain ⟨pl2, F2, m2, y9, q9, h1, rfl, hT2, hw2⟩ := hK1
      cases h1
      exact ex_vret [LO x r F0, MA G a M' (gdU (gdB f g) (512 + 16 * u0) false w0) R' pc' tr' md', SO (r 1) pl2 gn (nI ((SL g sa A n).filter (nOf (A (mx i)))).length) m2, SPl G pl2 F2, SG gn, PP, ALo (r 2) b (k - 1) y9, q9, RW G (r 3) (owF Fr u0 none ((s0 + 15) / 16)), TP G (r 4) T] hG d_ML_unload_104 rfl (by decide) (by decide) (eg_sub.of rfl) (by
        refine ⟨?_, Or.inl ⟨by rw [hul3]; rfl, rfl⟩⟩
        have := cr_leave hI' hr0 ((show lv (gMR g M' R') (mx i) ↔ lv g (mx i) by unfold lv; rw [eg' 8 (by decide) (by decide)]).mpr hlm) (by rw [eg' 10 (by decide) (by decide)]; exact h10) (by rw [eg' 11 (by decide) (by decide)]; exact h11) (by rw [eg' 12 (by decide) (by decide)]; exact h12) hws hu0 hi rfl (fun j hj hne => by rw [eg' 14 (by decide) (by decide)]; exact hnn j (by unfold lv at hj ⊢; rw [eg' 8 (by decide) (by decide)] at hj; exact hj) hne) (f' := (ulR f g n v (nI fj)).1) (F0 := F0) (pc := pc') (tr := tr') (md := md') (y := y9) (pl := pl2) (marks := m2) hLO (by rw [hul3]; exact e2) (by rw [hul3]; rfl) (by rw [hul3]; exact e15) (gMR_1 _ _) (gMR_r _ _) (gd_g eg' rfl).symm (by rw [hSL]; exact hT2) hw2
        rw [show (ulR f g n v (nI fj)).2 = remG (gMR g M' R') n (mx i) by rw [hul3]]
        rw [hSL] at this
        exact this)
    refine ex_al d_ML_unload_64 rfl ?_
    refine ex_get 5 fl_ML_270 d_ML_unload_65 rfl hm rfl ?_
    refine ex_k d_ML_unload_68 ?_
    refine ex_icmp_eq d_ML_unload_69 (fun z4 => ?_) (fun z4 => ?_)
    · have hgm : gMR g (g 1) (g 22) = g := by
        unfold gMR
        rw [va_up_same, va_up_same]
      have hum : ulM f g (mx i) fj = (frF (va_up f 0 0), g) := by rw [ulM, if_neg (by rw [hnb0]; decide), if_pos (show g 13 (mx i) = -1 from z4)]
      have hul3 : ulR f g n v (nI fj) = (va_up (va_up (ulM f g (mx i) fj).1 0 0) 3 (nI (remN (gMR g (g 1) (g 22)) n (mx i))), remG (gMR g (g 1) (g 22)) n (mx i)) := by rw [hul, hum, hgm]; rfl
      refine ex_k d_ML_unload_91 ?_
      refine ex_goto d_ML_unload_92 ?_
      refine ex_cCV [] hR (c_ML_state l G true) (eg_invS d_ML_unload_96 cd_ML_state cx_ML_61 rfl rfl) cd_ML_state rfl rfl (Nat.le_of_ble_eq_true rfl) (by decide) (by decide) (by decide) (by decide) rfl (fun hb3 => ?_) (fun hb3 => ?_)
      rotate_left
      · exact absurd rfl hb3
      refine ex_eqS [LO x r (frF f), MA G a (g 1) (gdB f g) (g 22) pc tr md, SO (r 1) pl gn (nI n) marks, SPl G pl F, SG gn, PP, ALo (r 2) b k y, q, RW G (r 3) Fr, TP G (r 4) T] rfl ?_
      exact ex_wide (by decide) (by decide) (J99 (frF f) (g 1) (g 22) pc tr md hM (by rw [hul3, hum]; rfl) hul3 (by rw [hum]; rfl) (by rw [hum]; rfl))
    have hrun : ¬ g 13 (mx i) = -1 := z4
    refine ex_al d_ML_unload_72 rfl ?_
    refine ex_al d_ML_unload_73 rfl ?_
    refine ex_get 5 fl_ML_149 d_ML_unload_74 rfl hm rfl ?_
    refine ex_al d_ML_unload_77 rfl ?_
    refine ex_get 5 fl_ML_270 d_ML_unload_78 rfl hm rfl ?_
    refine ex_iadd d_ML_unload_81 ?_
    refine ex_k d_ML_unload_82 ?_
    refine ex_k d_ML_unload_83 ?_
    refine ex_il d_ML_unload_84 rfl ?_
    obtain ⟨m, hmr⟩ : ∃ m, runR f g (g 10 (mx i) + g 13 (mx i)) 0 0 fj = m := ⟨_, rfl⟩
    have hMm : ∀ i, m.2.2.2.1 i &&& 255 = m.2.2.2.1 i := by rw [← hmr]; exact (mrun_sh (gdB f g) fj 0 (g 1) (rgS (g 22) 0 0) _ hM (rgS_0 _ _ _)).1
    have hum : ulM f g (mx i) fj = (runX (frF (va_up f 0 0)) m, gMR g m.2.2.2.1 m.2.2.2.2.1) := by rw [ulM, if_neg (by rw [hnb0]; decide), if_neg hrun, hmr]
    refine ex_cF [0, 1] hR (c_ML_run l G x r (frF f) a (g 1) (gdB f g) (g 22) pc tr md hr0 (g 10 (mx i) + g 13 (mx i)) 0 0 fj hfj hM m hmr) (eg_invV 0 d_ML_unload_85 cd_ML_run cx_ML_262 rfl rfl List.mem_cons_self rfl rfl) cd_ML_run rfl rfl (Nat.le_of_ble_eq_true rfl) (by decide) (by decide) (by decide) (by decide) rfl ?_
    refine ex_eqS [LO x r (rnF (frF f) m), MA G a m.2.2.2.1 (gdB f g) m.2.2.2.2.1 m.2.2.2.2.2 m.2.1 (nI m.2.2.1), SO (r 1) pl gn (nI n) marks, SPl G pl F, SG gn, PP, ALo (r 2) b k y, q, RW G (r 3) Fr, TP G (r 4) T] rfl ?_
    refine ex_if_ne d_ML_unload_88 (fun z5 => ?_) (fun z5 => ?_)
    · have hul3 : ulR f g n v (nI fj) = (va_up (runX (frF (va_up f 0 0)) m) 0 2, gMR g m.2.2.2.1 m.2.2.2.2.1) := by
        rw [hul, hum]
        show (if runX (frF (va_up f 0 0)) m 17 = 0 then _ else _) = _
        rw [if_neg (by rw [runX_17 _ _ rfl]; exact z5)]
      refine ex_k d_ML_unload_95 ?_
      refine ex_cCV [] hR (c_ML_state l G false) (eg_invS d_ML_unload_96 cd_ML_state cx_ML_61 rfl rfl) cd_ML_state rfl rfl (Nat.le_of_ble_eq_true rfl) (by decide) (by decide) (by decide) (by decide) rfl (fun hb3 => ?_) (fun hb3 => ?_)
      rotate_left
      · exact ext_leave [LO x r (rnF (frF f) m), MA G a m.2.2.2.1 (gdB f g) m.2.2.2.2.1 m.2.2.2.2.2 m.2.1 (nI m.2.2.1), SO (r 1) pl gn (nI n) marks, SPl G pl F, SG gn, PP, ALo (r 2) b k y, q, RW G (r 3) Fr, TP G (r 4) T] hG (fun _ h => absurd h List.not_mem_nil) (by decide) (by decide) (eg_sub.of rfl) (by
          rw [hul3]
          exact ⟨cr_mk hI hr0 hT hw (LO_eq (fEq_run f m 2)).symm ((fEq_run f m 2).1.trans (rnF_2 f m)) ((fEq_run f m 2).2.1.trans (rnF_3 f m)) ((fEq_run f m 2).2.2.1.trans ((rnF_15 f m).trans hI.ht)) hI.ht2 hI.hTb (fun i hi => by show T i = gMR g m.2.2.2.1 m.2.2.2.2.1 16 i; rw [gMR_16]; exact hI.hT i hi) (gMR_1 (g := g) m.2.2.2.1 m.2.2.2.2.1) (gMR_r (g := g) m.2.2.2.1 m.2.2.2.2.1) (gMR_e (g := g) m.2.2.2.1 m.2.2.2.2.1) hMm rfl, Or.inr (Or.inr ⟨rfl, rfl⟩)⟩)
      exact absurd hb3 (by decide)
    have hul3 : ulR f g n v (nI fj) = (va_up (va_up (ulM f g (mx i) fj).1 0 0) 3 (nI (remN (gMR g m.2.2.2.1 m.2.2.2.2.1) n (mx i))), remG (gMR g m.2.2.2.1 m.2.2.2.2.1) n (mx i)) := by
      rw [hul, hum]
      show (if runX (frF (va_up f 0 0)) m 17 = 0 then _ else _) = _
      rw [if_pos (by rw [runX_17 _ _ rfl]; exact z5)]
    refine ex_k d_ML_unload_91 ?_
    refine ex_goto d_ML_unload_92 ?_
    refine ex_cCV [] hR (c_ML_state l G true) (eg_invS d_ML_unload_96 cd_ML_state cx_ML_61 rfl rfl) cd_ML_state rfl rfl (Nat.le_of_ble_eq_true rfl) (by decide) (by decide) (by decide) (by decide) rfl (fun hb3 => ?_) (fun hb3 => ?_)
    rotate_left
    · exact absurd rfl hb3
    refine ex_eqS [LO x r (rnF (frF f) m), MA G a m.2.2.2.1 (gdB f g) m.2.2.2.2.1 m.2.2.2.2.2 m.2.1 (nI m.2.2.1), SO (r 1) pl gn (nI n) marks, SPl G pl F, SG gn, PP, ALo (r 2) b k y, q, RW G (r 3) Fr, TP G (r 4) T] rfl ?_
    exact ex_wide (by decide) (by decide) (J99 (rnF (frF f) m) m.2.2.2.1 m.2.2.2.2.1 m.2.2.2.2.2 m.2.1 (nI m.2.2.1) hMm (by rw [hul3, hum]; exact (LO_eq (fEq_run f m 0)).symm) hul3 (by rw [hum]; exact (fEq_run f m 0).1.trans (rnF_2 f m)) (by rw [hum]; exact (fEq_run f m 0).2.2.1.trans (rnF_15 f m)))
  
