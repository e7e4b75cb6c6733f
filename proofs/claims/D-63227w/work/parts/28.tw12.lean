/-! THE TWIN, 12: load, a new twin -/
def ldF (f : Nat → Int32) : Nat → Int32 := va_up (frF (va_up (va_up f 0 0) 15 0)) 0 2
def frM (g : Nat → Nat → Int32) : Option Nat := tfind (fun k => decide (g 8 k = 0)) 12
/-- the rows of a file's image -/
def fR (T : Nat → Int32) : Nat := (fL T + 15) / 16
def ldB (F : Nat → Int32) (g : Nat → Nat → Int32) (n : Nat) (x : Int32) (fu : Nat) : (Nat → Int32) × (Nat → Nat → Int32) := if roomI g (fR (g 16)) < 0 then (wrF F (some (6, -1)), g) else brR F g n (fL (g 16)) (fM (g 16)) (fE (g 16)) (fP (g 16)) ((frM g).getD 0) (roomI g (fR (g 16))).toNatClampNeg x fu
def ldM (f : Nat → Int32) (g : Nat → Nat → Int32) (n t : Nat) (x : Int32) (fu : Nat) : (Nat → Int32) × (Nat → Nat → Int32) :=
  if filB (g 16) t = false then (wrF (filF (ldF f) (g 16) t) (some (1, -1)), g)
  else if (tmod g x).isSome = true ∨ frM g = none then (wrF (hdF (ldF f) (g 16)) (some (2, -1)), g)
  else match imW g n (g 16) (fL (g 16)) (fM (g 16)) with
  | some p => (wrF (hdF (ldF f) (g 16)) (some p), g)
  | none => match exV g n (g 16) (fL (g 16)) (fM (g 16)) (fE (g 16)) with
    | some p => (wrF (hdF (ldF f) (g 16)) (some p), g)
    | none => ldB (hdF (ldF f) (g 16)) g n x fu
def ldE (F : Nat → Int32) (g : Nat → Nat → Int32) (m : Nat) : Int32 × (Nat → Int32) × (Nat → Nat → Int32) := if F 17 = 0 then (g 10 m, va_up F 0 0, g) else (0, F, g)
def ldR (f : Nat → Int32) (g : Nat → Nat → Int32) (n t : Nat) (x fu : Int32) : Int32 × (Nat → Int32) × (Nat → Nat → Int32) := if (nmB x && fuB fu) = true then ldE (ldM f g n t x fu.toNatClampNeg).1 (ldM f g n t x fu.toNatClampNeg).2 ((frM g).getD 0) else (0, va_up f 0 1, g)
theorem filB_of {T : Nat → Int32} {t : Nat} (h : filB T t = true) : h0B T t = true ∧ h1B T = true ∧ h2B T = true ∧ nI t = szI T ∧ rall (imP T) (fM T) = true ∧ rall (exP T) (fE T) = true ∧ rall (plP T) (fP T) = true := by
  simp only [filB, Bool.and_eq_true, decide_eq_true_eq] at h
  obtain ⟨⟨⟨⟨⟨⟨a, b⟩, c⟩, d⟩, e⟩, i⟩, j⟩ := h
  exact ⟨a, b, c, d, e, i, j⟩
theorem FZ_hd (f : Nat → Int32) {T : Nat → Int32} (h : h1B T = true) : FZ (hdF f T) (fL T) (fM T) (fE T) (fP T) := by
  obtain ⟨⟨a, a1, a2, a3⟩, ⟨b, b1⟩, ⟨c, c1⟩, ⟨d, d1⟩⟩ := h1B_of h
  exact ⟨a, b, c, d, a2, b1, c1, d1⟩
theorem plQ_of {T : Nat → Int32} {k : Nat} (h1 : h1B T = true) (h : rall (plP T) (fP T) = true) (hk : k < fP T) : plQ T (fL T) (fM T) (fE T) k := by
  have z := rall_iff.mp h k hk
  obtain ⟨⟨a, -⟩, ⟨b, -⟩, -, -⟩ := h1B_of h1
  simp only [plP, Bool.and_eq_true, decide_eq_true_eq] at z
  rw [a, b] at z
  exact ⟨⟨z.1.1.1.1, z.1.1.1.2⟩, z.1.1.2, z.1.2, z.2⟩
theorem imW_fd {g : Nat → Nat → Int32} {n : Nat} {T : Nat → Int32} {L M : Nat} (h : imW g n T L M = none) {i : Nat} (hi : i < M) : ∃ s, tsym g n (wdA T (imA L i)) = some s ∧ g 5 s = wdA T (imA L i + 4) := by
  unfold imW at h
  rw [Option.map_eq_none_iff] at h
  unfold tfind at h
  rw [List.find?_range_eq_none] at h
  have z := h i hi
  cases e : tsym g n (wdA T (imA L i)) with
  | none => rw [iwK, e] at z; exact absurd (show (!decide (¬ (3 : Int32) = 0)) = true from z) (by decide)
  | some s =>
    refine ⟨s, rfl, ?_⟩
    rw [iwK, e] at z
    by_cases y : g 5 s = wdA T (imA L i + 4)
    · exact y
    · have z : (!decide (¬ (if g 5 s = wdA T (imA L i + 4) then (0 : Int32) else 4) = 0)) = true := z
      rw [if_neg y] at z
      exact absurd z (by decide)
theorem exV_n {g : Nat → Nat → Int32} {n : Nat} {T : Nat → Int32} {L M E : Nat} (h : exV g n T L M E = none) : n + E ≤ 40 ∧ ∀ i, i < E → (tsym g n (wdA T (exA L M i))).isSome = false := by
  unfold exV at h
  cases e : tfind (fun k => (tsym g n (wdA T (exA L M k))).isSome) E with
  | some k => rw [e] at h; cases h
  | none =>
    rw [e] at h
    by_cases z : 40 < n + E
    · have h : (if 40 < n + E then some ((5 : Int32), nI (40 - n)) else none) = none := h
      rw [if_pos z] at h; cases h
    · refine ⟨by omega, fun i hi => ?_⟩
      unfold tfind at e
      rw [List.find?_range_eq_none] at e
      simpa using e i hi
theorem brK_ge {r : mR} (hkd : (r.1 = 0 ∧ r.2.1 = 0) ∨ (r.1 = 9 ∧ r.2.1 = 0) ∨ (r.1 = 8 ∧ 0 < r.2.1)) : 0 ≤ brK r := by
  unfold brK
  rcases hkd with y | y | y
  · rw [if_pos y.1]; split <;> decide
  · rw [if_neg (by rw [y.1]; decide), y.1]; decide
  · rw [if_neg (by rw [y.1]; decide), y.1]; decide
theorem brR_17 {f : Nat → Int32} {g : Nat → Nat → Int32} {n L M E P m ad : Nat} {nm : Int32} {fu : Nat} (h : f 17 = 0) : 0 ≤ (brR f g n L M E P m ad nm fu).1 17 := by
  unfold brR
  cases mnF g n (g 16) L M E P (nI ad) with
  | some k => show (0 : Int32) ≤ 7; decide
  | none =>
    show 0 ≤ (brI _ _ _ _ _ _).1 17
    unfold brI
    split
    · show 0 ≤ f 17; rw [h]; decide
    · unfold brE
      split
      · show 0 ≤ runF _ _ 17; rw [runF_17]; show 0 ≤ f 17; rw [h]; decide
      · exact brK_ge (mrun_kind _ _ _ _ _ _)
theorem roomI_of {g : Nat → Nat → Int32} {n : Nat} (h : ¬ roomI g n < 0) : ∃ k, k < 208 ∧ roomI g n = nI (512 + 16 * (k + 1 - n)) ∧ rwC (rowP g) (k + 1) = n := by
  unfold roomI at h ⊢
  cases e : rwF (rowP g) n 208 with
  | none => rw [e] at h; exact absurd (show (-1 : Int32) < 0 by decide) h
  | some k =>
    obtain ⟨a, b, -⟩ := tfind_lt e
    exact ⟨k, a, rfl, by simpa using b⟩
theorem imW_k {g : Nat → Nat → Int32} {n : Nat} {T : Nat → Int32} {L M : Nat} {p : Int32 × Int32} (h : imW g n T L M = some p) : p.1 = 3 ∨ p.1 = 4 := by
  unfold imW at h
  rw [Option.map_eq_some_iff] at h
  obtain ⟨k, hk, rfl⟩ := h
  have z := (tfind_lt hk).2.1
  show iwK g n T L k = 3 ∨ iwK g n T L k = 4
  unfold iwK at z ⊢
  cases e : tsym g n (wdA T (imA L k)) with
  | none => exact Or.inl rfl
  | some s =>
    rw [e] at z
    show (if _ then (0 : Int32) else 4) = 3 ∨ (if _ then (0 : Int32) else 4) = 4
    by_cases y : g 5 s = wdA T (imA L k + 4)
    · have z : decide (¬ (if g 5 s = wdA T (imA L k + 4) then (0 : Int32) else 4) = 0) = true := z
      rw [if_pos y] at z
      exact absurd z (by decide)
    · rw [if_neg y]; exact Or.inr rfl
theorem exV_k {g : Nat → Nat → Int32} {n : Nat} {T : Nat → Int32} {L M E : Nat} {p : Int32 × Int32} (h : exV g n T L M E = some p) : p.1 = 5 := by
  unfold exV at h
  cases e : tfind (fun k => (tsym g n (wdA T (exA L M k))).isSome) E with
  | some k => rw [e] at h; cases h; rfl
  | none =>
    rw [e] at h
    by_cases z : 40 < n + E
    · have h : (if 40 < n + E then some ((5 : Int32), nI (40 - n)) else none) = some p := h
      rw [if_pos z] at h; cases h; rfl
    · have h : (if 40 < n + E then some ((5 : Int32), nI (40 - n)) else none) = some p := h
      rw [if_neg z] at h; cases h
set_option maxRecDepth 100000 in
set_option maxHeartbeats 4000000 in
theorem c_TM_load (l : Launch) (G : eg_G) (h : Nat) (q : Nat → Nat) (f : Nat → Int32) (g : Nat → Nat → Int32) (x fu : Int32) (n : Nat) (hn : f 3 = nI n) (hn2 : n ≤ 40) (t : Nat) (ht : f 15 = nI t) (ht2 : t ≤ 1200) (hse : f 2 = 0 ∨ f 2 = 1) (hof : ∀ s, s < n → g 7 s = -1 ∨ ∃ k, k < 12 ∧ g 7 s = nI k) : Ct l G y_TM_load 6 0 0 [.ref h, .int x, .int fu] [TW G h q f g] (rF (some (.int (ldR f g n t x fu).1)) [TW G h q (ldR f g n t x fu).2.1 (ldR f g n t x fu).2.2]) := by
  refine Ct.of cd_TM_load (eg_catb rfl) (Nat.le_of_ble_eq_true rfl) ?_
  intro Γ hG
  have hR := hG.rm
  show Ex G Γ mu_TM_load 0 [some (.ref h), some (.int x), some (.int fu), none, none, none] [] [TW G h q f g] 0 0
  skip
  refine ex_al d_TM_load_0 rfl ?_
  refine tg 0 fl_TM_93 d_TM_load_1 rfl rfl ?_
  rw [ht]
  refine ex_is d_TM_load_4 (Nat.le_of_ble_eq_true rfl) ?_
  have hbad : (nmB x && fuB fu) = false → Ex G Γ mu_TM_load 24 [some (.ref h), some (.int x), some (.int fu), some (.int (nI t)), none, none] [.ref h] [TW G h q f g] 0 0 := by
    intro hb
    refine ex_k d_TM_load_24 ?_
    refine ex_goto d_TM_load_25 ?_
    refine tp_0 0 wl_TM_57 d_TM_load_29 rfl ?_
    refine ex_al d_TM_load_32 rfl ?_
    refine tg 0 fl_TM_57 d_TM_load_33 rfl rfl ?_
    refine ex_if_le d_TM_load_36 (fun z => absurd z (by show ¬ (1 : Int32) ≤ 0; decide)) (fun _ => ?_)
    refine ex_k d_TM_load_39 ?_
    have e : ldR f g n t x fu = (0, va_up f 0 1, g) := if_neg (by rw [hb]; decide)
    exact ex_iret [TW G h q (va_up f 0 1) g] hG d_TM_load_40 rfl rfl (by decide) (by decide) (eg_sub.of rfl) ⟨by rw [e], by rw [e]⟩
  refine ex_al d_TM_load_5 rfl ?_
  refine ex_il d_TM_load_6 rfl ?_
  refine ex_cP hR (c_TM_isName l G x) (eg_invS d_TM_load_7 cd_TM_isName cx_TM_83 rfl rfl) cd_TM_isName (Nat.le_of_ble_eq_true rfl) (by decide) (by decide) (by decide) (by decide) rfl ?_
  refine ex_if_eq d_TM_load_10 (fun h10 => ?_) (fun h10 => ?_)
  · skip
    exact hbad (by rw [bI_0.mp h10]; rfl)
  · skip
    have h10 : nmB x = true := by cases hb : nmB x; exact absurd (bI_0.mpr hb) h10; rfl
    refine ex_il d_TM_load_13 rfl ?_
    refine ex_if_lt d_TM_load_14 (fun h14 => ?_) (fun h14 => ?_)
    · skip
      exact hbad (by unfold fuB; rw [decide_eq_false (Int32.not_le.mpr h14), Bool.false_and, Bool.and_false])
    · skip
      skip
      refine ex_il d_TM_load_17 rfl ?_
      refine ex_k d_TM_load_18 ?_
      refine ex_icmp_le d_TM_load_21 (fun h21 => ?_) (fun h21 => ?_)
      · skip
        have hfu : fuB fu = true := by unfold fuB; rw [decide_eq_true (Int32.not_lt.mp h14), decide_eq_true h21]; rfl
        obtain ⟨j, hj, rfl⟩ := fuB_of hfu
        clear hbad
        have hld : ldR f g n t x (nI j) = ldE (ldM f g n t x j).1 (ldM f g n t x j).2 ((frM g).getD 0) := by rw [ldR, if_pos (by rw [h10, hfu]; rfl), nI_clamp (by omega)]
        refine ex_k d_TM_load_28 ?_
        refine tp_0 0 wl_TM_57 d_TM_load_29 rfl ?_
        refine ex_al d_TM_load_32 rfl ?_
        refine tg 0 fl_TM_57 d_TM_load_33 rfl rfl ?_
        refine ex_if_le d_TM_load_36 (fun h36 => ?_) (fun h36 => absurd (show (0 : Int32) ≤ 0 by decide) h36)
        refine ex_al d_TM_load_41 rfl ?_
        refine ex_k d_TM_load_42 ?_
        refine tp_15 0 wl_TM_93 d_TM_load_43 rfl ?_
        refine ex_al d_TM_load_46 rfl ?_
        refine ex_cV [0] hR (c_TM_fresh l G h q (va_up (va_up f 0 0) 15 0) g) (eg_invV 0 d_TM_load_47 cd_TM_fresh cx_TM_155 rfl rfl List.mem_cons_self rfl rfl) cd_TM_fresh rfl rfl (Nat.le_of_ble_eq_true rfl) (by decide) (by decide) (by decide) (by decide) rfl ?_
        refine ex_al d_TM_load_50 rfl ?_
        refine ex_k d_TM_load_51 ?_
        refine tp_0 0 wl_TM_57 d_TM_load_52 rfl ?_
        refine ex_eqS [TW G h q (ldF f) g] rfl ?_
        have J180 : ∀ (m : Nat) (F : Nat → Int32) (g' : Nat → Nat → Int32), ldM f g n t x j = (F, g') → 0 ≤ F 17 → (F 17 = 0 → m < 12 ∧ (frM g).getD 0 = m) → Ex G Γ mu_TM_load 180 [some (.ref h), some (.int x), some (.int (nI j)), some (.int (nI t)), some (.int (nI m)), none] [] [TW G h q F g'] 0 0 := by
          intro m F g' hM h17 hm
          rw [hM] at hld
          refine ex_al d_TM_load_180 rfl ?_
          refine tg 0 fl_TM_136 d_TM_load_181 rfl rfl ?_
          refine ex_if_le d_TM_load_184 (fun z => ?_) (fun z => ?_)
          · have z : F 17 = 0 := i_cast z h17
            obtain ⟨hm1, hm2⟩ := hm z
            have e : ldR f g n t x (nI j) = (g' 10 m, va_up F 0 0, g') := by rw [hld, ldE, if_pos z, hm2]
            refine ex_al d_TM_load_189 rfl ?_
            refine ex_k d_TM_load_190 ?_
            refine tp_0 0 wl_TM_57 d_TM_load_191 rfl ?_
            refine ex_al d_TM_load_194 rfl ?_
            refine tg 0 fl_TM_32 d_TM_load_195 rfl rfl ?_
            refine ex_il d_TM_load_198 rfl ?_
            refine tl_10 0 d_TM_load_200 rfl (ix_e hm1) ?_
            exact ex_iret [TW G h q (va_up F 0 0) g'] hG d_TM_load_201 rfl rfl (by decide) (by decide) (eg_sub.of rfl) ⟨by rw [e], by rw [e]⟩
          · have z : ¬ F 17 = 0 := fun y => z (show F 17 ≤ 0 by rw [y]; decide)
            have e : ldR f g n t x (nI j) = (0, F, g') := by rw [hld, ldE, if_neg z]
            refine ex_k d_TM_load_187 ?_
            exact ex_iret [TW G h q F g'] hG d_TM_load_188 rfl rfl (by decide) (by decide) (eg_sub.of rfl) ⟨by rw [e], by rw [e]⟩
        have J81 : ∀ m, (m = 12 ∧ frM g = none) ∨ (m < 12 ∧ frM g = some m) → Ex G Γ mu_TM_load 81 [some (.ref h), some (.int x), some (.int (nI j)), some (.int (nI t)), some (.int (nI m)), none] [] [TW G h q (ldF f) g] 0 0 := by
          intro m hm
          refine ex_al d_TM_load_81 rfl ?_
          refine ex_il d_TM_load_82 rfl ?_
          refine ex_cF [0] hR (c_TM_isFile l G h q (ldF f) g t ht2) (eg_invV 0 d_TM_load_83 cd_TM_isFile cx_TM_158 rfl rfl List.mem_cons_self rfl rfl) cd_TM_isFile rfl rfl (Nat.le_of_ble_eq_true rfl) (by decide) (by decide) (by decide) (by decide) rfl ?_
          refine ex_if_ne d_TM_load_86 (fun h86 => ?_) (fun h86 => ?_)
          · skip
            have hfil : filB (g 16) t = true := by cases hb : filB (g 16) t; exact absurd (bI_0.mpr hb) h86; rfl
            obtain ⟨f0, f1, f2, f3, f4, f5, f6⟩ := filB_of hfil
            have hzz := FZ_hd (ldF f) f1
            obtain ⟨⟨eL, eL1, eL2, eL3⟩, ⟨eM, eM1⟩, ⟨eE, eE1⟩, ⟨eP, eP1⟩⟩ := h1B_of f1
            refine ex_eqS [TW G h q (hdF (ldF f) (g 16)) g] (by show [TW G h q (filF (ldF f) (g 16) t) g] = _; rw [filF, if_pos f0]) ?_
            refine ex_al d_TM_load_99 rfl ?_
            refine ex_il d_TM_load_100 rfl ?_
            refine ex_cF [0] hR (c_TM_numberOf l G h q (hdF (ldF f) (g 16)) g x) (eg_invV 0 d_TM_load_101 cd_TM_numberOf cx_TM_161 rfl rfl List.mem_cons_self rfl rfl) cd_TM_numberOf rfl rfl (Nat.le_of_ble_eq_true rfl) (by decide) (by decide) (by decide) (by decide) rfl ?_
            have hsome : 0 ≤ oI (tmod g x) ↔ (tmod g x).isSome = true := oI_ge (fun k hk => by have := (tfind_lt hk).1; omega)
            refine ex_if_ge d_TM_load_104 (fun h104 => ?_) (fun h104 => ?_)
            · skip
              have h104 := hsome.mp h104
              refine ex_al d_TM_load_114 rfl ?_
              refine ex_k d_TM_load_115 ?_
              refine ex_k d_TM_load_116 ?_
              refine ex_cF [0] hR (c_TM_wrong l G h q (hdF (ldF f) (g 16)) g 2 (-1)) (eg_invV 0 d_TM_load_117 cd_TM_wrong cx_TM_139 rfl rfl List.mem_cons_self rfl rfl) cd_TM_wrong rfl rfl (Nat.le_of_ble_eq_true rfl) (by decide) (by decide) (by decide) (by decide) rfl ?_
              refine ex_pop d_TM_load_120 rfl ?_
              refine ex_goto d_TM_load_121 ?_
              refine ex_forget [true, true, true, true, true, false] ?_
              exact J180 m _ _ (by rw [ldM, if_neg (by rw [hfil]; decide), if_pos (Or.inl h104)]; rfl) (show (0 : Int32) ≤ 2 by decide) (fun z => absurd (show (2 : Int32) = 0 from z) (by decide))
            · skip
              have h104 : ¬ (tmod g x).isSome = true := fun z => h104 (hsome.mpr z)
              refine ex_il d_TM_load_107 rfl ?_
              refine ex_k d_TM_load_109 ?_
              refine ex_icmp_ne d_TM_load_111 (fun h111 => ?_) (fun h111 => ?_)
              · skip
                have hm12 : m < 12 ∧ frM g = some m := by
                  rcases hm with z | z
                  · exact absurd (by rw [z.1]; rfl) h111
                  · exact z
                have hno2 : ¬ ((tmod g x).isSome = true ∨ frM g = none) := by
                  rintro (z | z)
                  · exact h104 z
                  · rw [hm12.2] at z; cases z
                refine ex_al d_TM_load_124 rfl ?_
                refine ex_cF [0] hR (c_TM_importsWrong l G h q (hdF (ldF f) (g 16)) g n hn hn2 (fL (g 16)) (fM (g 16)) (fE (g 16)) (fP (g 16)) hzz) (eg_invV 0 d_TM_load_125 cd_TM_importsWrong cx_TM_164 rfl rfl List.mem_cons_self rfl rfl) cd_TM_importsWrong rfl rfl (Nat.le_of_ble_eq_true rfl) (by decide) (by decide) (by decide) (by decide) rfl ?_
                obtain ⟨o1, ho1⟩ : ∃ o1, imW g n (g 16) (fL (g 16)) (fM (g 16)) = o1 := ⟨_, rfl⟩
                refine ex_eqS [TW G h q (wrF (hdF (ldF f) (g 16)) o1) g] (by rw [← ho1]; rfl) ?_
                rw [ho1]
                refine ex_if_ne d_TM_load_128 (fun h128 => ?_) (fun h128 => ?_)
                · skip
                  obtain ⟨p, rfl⟩ : ∃ p, o1 = some p := by
                    cases o1 with
                    | none => exact absurd rfl h128
                    | some p => exact ⟨p, rfl⟩
                  refine ex_forget [true, true, true, true, true, false] ?_
                  have hp := imW_k ho1
                  exact J180 m (wrF (hdF (ldF f) (g 16)) (some p)) g (by rw [ldM, if_neg (by rw [hfil]; decide), if_neg hno2, ho1]) (show (0 : Int32) ≤ p.1 by rcases hp with z | z <;> rw [z] <;> decide) (fun z => absurd (show p.1 = 0 from z) (by rcases hp with y | y <;> rw [y] <;> decide))
                · skip
                  obtain rfl : o1 = none := by
                    cases o1 with
                    | none => rfl
                    | some p => exact absurd (show (1 : Int32) = 0 from h128) (by decide)
                  refine ex_eqS [TW G h q (hdF (ldF f) (g 16)) g] rfl ?_
                  refine ex_al d_TM_load_131 rfl ?_
                  refine ex_cF [0] hR (c_TM_exportsWrong l G h q (hdF (ldF f) (g 16)) g n hn hn2 (fL (g 16)) (fM (g 16)) (fE (g 16)) (fP (g 16)) hzz) (eg_invV 0 d_TM_load_132 cd_TM_exportsWrong cx_TM_168 rfl rfl List.mem_cons_self rfl rfl) cd_TM_exportsWrong rfl rfl (Nat.le_of_ble_eq_true rfl) (by decide) (by decide) (by decide) (by decide) rfl ?_
                  obtain ⟨o2, ho2⟩ : ∃ o2, exV g n (g 16) (fL (g 16)) (fM (g 16)) (fE (g 16)) = o2 := ⟨_, rfl⟩
                  refine ex_eqS [TW G h q (wrF (hdF (ldF f) (g 16)) o2) g] (by rw [← ho2]; rfl) ?_
                  rw [ho2]
                  refine ex_if_ne d_TM_load_135 (fun h135 => ?_) (fun h135 => ?_)
                  · skip
                    obtain ⟨p, rfl⟩ : ∃ p, o2 = some p := by
                      cases o2 with
                      | none => exact absurd rfl h135
                      | some p => exact ⟨p, rfl⟩
                    refine ex_forget [true, true, true, true, true, false] ?_
                    have hp := exV_k ho2
                    exact J180 m (wrF (hdF (ldF f) (g 16)) (some p)) g (by rw [ldM, if_neg (by rw [hfil]; decide), if_neg hno2, ho1, ho2]) (show (0 : Int32) ≤ p.1 by rw [hp]; decide) (fun z => absurd (show p.1 = 0 from z) (by rw [hp]; decide))
                  · skip
                    obtain rfl : o2 = none := by
                      cases o2 with
                      | none => rfl
                      | some p => exact absurd (show (1 : Int32) = 0 from h135) (by decide)
                    refine ex_eqS [TW G h q (hdF (ldF f) (g 16)) g] rfl ?_
                    have hldB : ldM f g n t x j = ldB (hdF (ldF f) (g 16)) g n x j := by rw [ldM, if_neg (by rw [hfil]; decide), if_neg hno2, ho1, ho2]
                    have hRr : fR (g 16) = (fL (g 16) + 15) / 16 := rfl
                    refine ex_al d_TM_load_138 rfl ?_
                    refine ex_al d_TM_load_139 rfl ?_
                    refine tg 0 fl_TM_96 d_TM_load_140 rfl rfl ?_
                    refine ex_k d_TM_load_143 ?_
                    refine ex_iadd d_TM_load_145 ?_
                    refine ex_k d_TM_load_146 ?_
                    refine ex_idiv d_TM_load_148 (by decide) ?_
                    refine ex_eqT [.int (nI (fR (g 16))), .ref h] (by show [Value.int ((wdA (g 16) 4 + nI 15) / nI 16), _] = _; rw [eL, nI_add, pk_div (by omega) (by decide) (by decide)]; rfl) ?_
                    refine ex_cF [0] hR (c_TM_room l G h q (hdF (ldF f) (g 16)) g (fR (g 16)) (by omega) (by omega)) (eg_invV 0 d_TM_load_149 cd_TM_room cx_TM_171 rfl rfl List.mem_cons_self rfl rfl) cd_TM_room rfl rfl (Nat.le_of_ble_eq_true rfl) (by decide) (by decide) (by decide) (by decide) rfl ?_
                    refine ex_is d_TM_load_152 (Nat.le_of_ble_eq_true rfl) ?_
                    refine ex_il d_TM_load_154 rfl ?_
                    refine ex_if_ge d_TM_load_156 (fun h156 => ?_) (fun h156 => ?_)
                    · skip
                      have h156 : ¬ roomI g (fR (g 16)) < 0 := Int32.not_lt.mpr h156
                      obtain ⟨kr, hkr, hkr2, hkr3⟩ := roomI_of h156
                      have hcle := rwC_le (rowP g) (kr + 1)
                      obtain ⟨ad, had⟩ : ∃ ad, ad = 512 + 16 * (kr + 1 - fR (g 16)) := ⟨_, rfl⟩
                      rw [← had] at hkr2
                      have hlB : ldM f g n t x j = brR (hdF (ldF f) (g 16)) g n (fL (g 16)) (fM (g 16)) (fE (g 16)) (fP (g 16)) m ad x j := by rw [hldB, ldB, if_neg h156, hkr2, nI_clamp (by omega), hm12.2]; rfl
                      refine ex_al d_TM_load_170 rfl ?_
                      refine ex_il d_TM_load_171 rfl ?_
                      refine ex_il d_TM_load_173 rfl ?_
                      refine ex_il d_TM_load_174 rfl ?_
                      refine ex_il d_TM_load_176 rfl ?_
                      refine ex_eqT [.int (nI j), .int (nI ad), .int x, .int (nI m), .ref h] (by rw [hkr2]) ?_
                      refine ex_cV [0] hR (c_TM_bring l G h q (hdF (ldF f) (g 16)) g n hn hn2 (fL (g 16)) (fM (g 16)) (fE (g 16)) (fP (g 16)) hzz eL3 (fun k hk => plQ_of f1 f6 hk) (fun i hi => by obtain ⟨s, hs, -⟩ := imW_fd ho1 hi; rw [hs]; rfl) (exV_n ho2).1 hof hse rfl rfl rfl m ad hm12.1 (by omega) x j hj) (eg_invV 0 d_TM_load_177 cd_TM_bring cx_TM_174 rfl rfl List.mem_cons_self rfl rfl) cd_TM_bring rfl rfl (Nat.le_of_ble_eq_true rfl) (by decide) (by decide) (by decide) (by decide) rfl ?_
                      refine ex_forget [true, true, true, true, true, false] ?_
                      exact J180 m _ _ hlB (brR_17 rfl) (fun _ => ⟨hm12.1, by rw [hm12.2]; rfl⟩)
                    · skip
                      have h156 : roomI g (fR (g 16)) < 0 := Int32.not_le.mp h156
                      refine ex_al d_TM_load_159 rfl ?_
                      refine ex_k d_TM_load_160 ?_
                      refine ex_k d_TM_load_162 ?_
                      refine ex_cF [0] hR (c_TM_wrong l G h q (hdF (ldF f) (g 16)) g 6 (-1)) (eg_invV 0 d_TM_load_163 cd_TM_wrong cx_TM_139 rfl rfl List.mem_cons_self rfl rfl) cd_TM_wrong rfl rfl (Nat.le_of_ble_eq_true rfl) (by decide) (by decide) (by decide) (by decide) rfl ?_
                      refine ex_pop d_TM_load_166 rfl ?_
                      refine ex_goto d_TM_load_167 ?_
                      refine ex_forget [true, true, true, true, true, false] ?_
                      exact J180 m _ _ (by rw [hldB, ldB, if_pos h156]; rfl) (show (0 : Int32) ≤ 6 by decide) (fun z => absurd (show (6 : Int32) = 0 from z) (by decide))
              · skip
                have hm12 : frM g = none := by
                  rcases hm with z | z
                  · exact z.2
                  · exact absurd ((nI_eq (a := m) (b := 12) (by omega) (by decide)).mp h111) (by omega)
                refine ex_al d_TM_load_114 rfl ?_
                refine ex_k d_TM_load_115 ?_
                refine ex_k d_TM_load_116 ?_
                refine ex_cF [0] hR (c_TM_wrong l G h q (hdF (ldF f) (g 16)) g 2 (-1)) (eg_invV 0 d_TM_load_117 cd_TM_wrong cx_TM_139 rfl rfl List.mem_cons_self rfl rfl) cd_TM_wrong rfl rfl (Nat.le_of_ble_eq_true rfl) (by decide) (by decide) (by decide) (by decide) rfl ?_
                refine ex_pop d_TM_load_120 rfl ?_
                refine ex_goto d_TM_load_121 ?_
                refine ex_forget [true, true, true, true, true, false] ?_
                exact J180 m _ _ (by rw [ldM, if_neg (by rw [hfil]; decide), if_pos (Or.inr hm12)]; rfl) (show (0 : Int32) ≤ 2 by decide) (fun z => absurd (show (2 : Int32) = 0 from z) (by decide))
          · skip
            have hfil := bI_0.mp h86
            refine ex_al d_TM_load_89 rfl ?_
            refine ex_k d_TM_load_90 ?_
            refine ex_k d_TM_load_91 ?_
            refine ex_cF [0] hR (c_TM_wrong l G h q (filF (ldF f) (g 16) t) g 1 (-1)) (eg_invV 0 d_TM_load_92 cd_TM_wrong cx_TM_139 rfl rfl List.mem_cons_self rfl rfl) cd_TM_wrong rfl rfl (Nat.le_of_ble_eq_true rfl) (by decide) (by decide) (by decide) (by decide) rfl ?_
            refine ex_pop d_TM_load_95 rfl ?_
            refine ex_goto d_TM_load_96 ?_
            refine ex_forget [true, true, true, true, true, false] ?_
            exact J180 m _ _ (by rw [ldM, if_pos hfil]; rfl) (show (0 : Int32) ≤ 1 by decide) (fun z => absurd (show (1 : Int32) = 0 from z) (by decide))
        refine ex_k d_TM_load_55 ?_
        refine ex_is d_TM_load_56 (Nat.le_of_ble_eq_true rfl) ?_
        have L1 : ∀ k, k ≤ 12 → (∀ i, i < k → decide (g 8 i = 0) = false) → Ex G Γ mu_TM_load 58 [some (.ref h), some (.int x), some (.int (nI j)), some (.int (nI t)), some (.int (nI k)), none] [] [TW G h q (ldF f) g] 0 0 := by
          refine eg_down 12 (fun k hk ih hno => ?_)
          refine ex_il d_TM_load_58 rfl ?_
          refine ex_k d_TM_load_60 ?_
          refine ex_icmp_ge d_TM_load_62 (fun h62 => ?_) (fun h62 => ?_)
          · skip
            have h62 := le_n (a := 12) h62
            have hk12 : k = 12 := by omega
            exact J81 k (Or.inl ⟨hk12, tfind_none (fun i hi => hno i (by omega))⟩)
          · skip
            have hlt := lt_n (a := 12) h62
            refine ex_al d_TM_load_65 rfl ?_
            refine tg 0 fl_TM_25 d_TM_load_66 rfl rfl ?_
            refine ex_il d_TM_load_69 rfl ?_
            refine tl_8 0 d_TM_load_71 rfl (ix_e hlt) ?_
            refine ex_if_eq d_TM_load_72 (fun h72 => ?_) (fun h72 => ?_)
            · skip
              have h72 : g 8 k = 0 := h72
              exact J81 k (Or.inr ⟨hlt, tfind_some (j := k) hlt (decide_eq_true h72) hno⟩)
            · skip
              have h72 : ¬ g 8 k = 0 := h72
              refine ex_inc d_TM_load_75 rfl ?_
              refine ex_goto d_TM_load_78 ?_
              exact ih hlt (fun i hi => by rcases Nat.lt_or_ge i k with z | z; exact hno i z; rw [show i = k by omega]; exact decide_eq_false h72)
        exact L1 0 (Nat.zero_le _) (fun i hi => absurd hi (Nat.not_lt_zero _))
      · skip
        exact hbad (by unfold fuB; rw [decide_eq_false (p := fu ≤ 2000) h21, Bool.and_false, Bool.and_false])
