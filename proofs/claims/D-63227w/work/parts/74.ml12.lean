/-! THE LOADER, 12: places are mended -/
theorem b255 {j : Nat} (hj : j < 32) : (255#32).getLsbD j = decide (j < 8) := (by decide : ∀ j : Fin 32, (255#32).getLsbD j.val = decide (j.val < 8)) ⟨j, hj⟩
theorem byK_bv (v : Int32) {k : Nat} (hk : k < 4) : (byK v k).toBitVec = v.toBitVec.sshiftRight (8 * k) &&& 255#32 := by
  unfold byK
  rw [Int32.toBitVec_and, Int32.toBitVec_shiftRight]
  have : k = 0 ∨ k = 1 ∨ k = 2 ∨ k = 3 := by omega
  rcases this with rfl | rfl | rfl | rfl <;> rfl
theorem byK_bit (v : Int32) {k i : Nat} (hk : k < 4) (hi : i < 32) : (byK v k).toBitVec.getLsbD i = (decide (i < 8) && v.toBitVec.getLsbD (8 * k + i)) := by
  rw [byK_bv v hk, BitVec.getLsbD_and, b255 hi, BitVec.getLsbD_sshiftRight, Bool.and_comm]
  by_cases h : i < 8
  · rw [decide_eq_true h, Bool.true_and, Bool.true_and, if_pos (by omega), decide_eq_false (by omega)]
    rfl
  · rw [decide_eq_false h, Bool.false_and, Bool.false_and]
theorem by_asm (v : Int32) : byK v 0 ||| byK v 1 <<< ((8 : Int32) &&& 31) ||| byK v 2 <<< ((16 : Int32) &&& 31) ||| byK v 3 <<< ((24 : Int32) &&& 31) = v := by
  apply Int32.toBitVec_inj.mp
  rw [Int32.toBitVec_or, Int32.toBitVec_or, Int32.toBitVec_or, sh_e _ _ 8 (by decide) (by decide), sh_e _ _ 16 (by decide) (by decide), sh_e _ _ 24 (by decide) (by decide)]
  apply BitVec.eq_of_getLsbD_eq
  intro i hi
  rw [BitVec.getLsbD_or, BitVec.getLsbD_or, BitVec.getLsbD_or, BitVec.getLsbD_shiftLeft, BitVec.getLsbD_shiftLeft, BitVec.getLsbD_shiftLeft, byK_bit v (by decide) hi, byK_bit v (by decide) (by omega), byK_bit v (by decide) (by omega), byK_bit v (by decide) (by omega)]
  have hc : i < 8 ∨ (8 ≤ i ∧ i < 16) ∨ (16 ≤ i ∧ i < 24) ∨ 24 ≤ i := by omega
  rcases hc with h | ⟨h, h'⟩ | ⟨h, h'⟩ | h
  · simp [h, show i < 16 by omega, show i < 24 by omega]
  · simp [hi, h', show ¬ i < 8 by omega, show i < 24 by omega, show i - 8 < 8 by omega, show 8 + (i - 8) = i by omega]
  · simp [hi, h', show ¬ i < 8 by omega, show ¬ i < 16 by omega, show ¬ i - 8 < 8 by omega, show i - 16 < 8 by omega, show 16 + (i - 16) = i by omega]
  · simp [hi, show ¬ i < 8 by omega, show ¬ i < 16 by omega, show ¬ i < 24 by omega, show ¬ i - 8 < 8 by omega, show ¬ i - 16 < 8 by omega, show i - 24 < 8 by omega, show 24 + (i - 24) = i by omega]
theorem wdA_self (T : Nat → Int32) (a : Nat) (v : Int32) : wdA (putB T a v 4) a = v := by
  have e0 : putB T a v 4 a = byK v 0 := by
    rw [putB, pk_un (by omega), putB, pk_un (by omega), putB, pk_un (by omega), putB]
    exact pk_us
  have e1 : putB T a v 4 (a + 1) = byK v 1 := by
    rw [putB, pk_un (by omega), putB, pk_un (by omega), putB]
    exact pk_us
  have e2 : putB T a v 4 (a + 2) = byK v 2 := by
    rw [putB, pk_un (by omega), putB]
    exact pk_us
  have e3 : putB T a v 4 (a + 3) = byK v 3 := by
    rw [putB]
    exact pk_us
  unfold wdA
  rw [e0, e1, e2, e3]
  exact by_asm v
theorem imgF_put (T : Nat → Int32) {o N : Nat} (v : Int32) (h : o < N) : imgF (putB T (32 + 4 * o) v 4) N = upd (imgF T N) o v := funext fun i => by
  show (if i < N then wdA (putB T (32 + 4 * o) v 4) (32 + 4 * i) else 0) = if i = o then v else if i < N then wdA T (32 + 4 * i) else 0
  by_cases z : i = o
  · rw [if_pos z, z, if_pos h, wdA_self]
  · rw [if_neg z]
    by_cases z2 : i < N
    · rw [if_pos z2, if_pos z2, wdA_put (by omega)]
    · rw [if_neg z2, if_neg z2]
theorem even_of {d : Int32} (h : d - d / 2 * 2 = 0) : d.toInt % 2 = 0 := by
  have h2 : d = d / 2 * 2 := by
    have := congrArg (fun z => z + d / 2 * 2) h
    simpa using this
  have h3 := congrArg Int32.toInt h2
  rw [Int32.toInt_mul] at h3
  rw [h3, show Int32.toInt 2 = 2 by decide]
  generalize (d / 2).toInt = y
  unfold Int.bmod
  dsimp only
  split <;> omega
theorem mdO_lo {k d : Int32} (h : k ≤ 3) : mdO k d = true := by
  unfold mdO
  rw [if_neg (fun z => by rw [z] at h; exact absurd h (by decide)), if_neg (fun z => by rw [z] at h; exact absurd h (by decide))]
theorem mdO_odd {k d : Int32} (hk : k = 4 ∨ k = 5) (h : ¬ d - d / 2 * 2 = 0) : mdO k d = false := by
  unfold mdO
  rcases hk with rfl | rfl
  · rw [if_pos rfl, decide_eq_false h]; rfl
  · rw [if_neg (by decide), if_pos rfl, decide_eq_false h]; rfl
theorem mdO_ev {k d mo : Int32} (hk : k = 4 ∨ k = 5) (hm : mo = if k = 4 then 1048576 else 4096) (h : d - d / 2 * 2 = 0) : mdO k d = (!(decide (d < -mo)) && decide (d < mo)) := by
  have he := even_of h
  unfold mdO
  rcases hk with rfl | rfl
  · rw [if_pos rfl] at hm
    subst hm
    rw [if_pos rfl, decide_eq_true h, Bool.true_and]
    congr 1
    · rw [← decide_not, decide_eq_decide, Int32.not_lt]
    · rw [decide_eq_decide, Int32.lt_iff_toInt_lt, Int32.le_iff_toInt_le]
      show d.toInt ≤ 1048574 ↔ d.toInt < 1048576
      omega
  · rw [if_neg (by decide)] at hm
    subst hm
    rw [if_neg (by decide), if_pos rfl, decide_eq_true h, Bool.true_and]
    congr 1
    · rw [← decide_not, decide_eq_decide, Int32.not_lt]
    · rw [decide_eq_decide, Int32.lt_iff_toInt_lt, Int32.le_iff_toInt_le]
      show d.toInt ≤ 4094 ↔ d.toInt < 4096
      omega
theorem md45 {k : Int32} (h : 0 ≤ k ∧ k ≤ 5) (h3 : ¬ k ≤ 3) : k = 4 ∨ k = 5 := by
  by_cases h4 : k = 4
  · exact Or.inl h4
  · refine Or.inr (md5 h ?_ ?_ ?_ ?_ h4) <;> intro z <;> rw [z] at h3 <;> exact h3 (by decide)
section MND
variable {g : Nat → Nat → Int32} {n : Nat} {T : Nat → Int32} {L M E P : Nat} {ad : Int32}
theorem mdS_T (hL : L ≤ 512) (hL4 : L % 4 = 0) (hp : ∀ k, k < P → plQ T L M E k) {k p : Nat} (hk : k ≤ P) (hpp : 32 + L ≤ p) : mdS g n (mnT g n T L M E ad k) L p ad = mdS g n T L p ad := by
  unfold mdS
  rw [mnT_hi hL hL4 hp k hk (p + 8) (by omega), mnT_hi hL hL4 hp k hk (p + 12) (by omega), mnT_hi hL hL4 hp k hk (imA L _) (by unfold imA; omega)]
theorem mndB_T (hL : L ≤ 512) (hL4 : L % 4 = 0) (hp : ∀ k, k < P → plQ T L M E k) {k : Nat} (hk : k < P) : mndB g n (mnT g n T L M E ad k) L (plA L M E k) ad = mdO (wdA T (plA L M E k)) (mdS g n T L (plA L M E k) ad - (ad + wdA T (plA L M E k + 4))) := by
  have hpp : 32 + L ≤ plA L M E k := by unfold plA; omega
  unfold mndB
  rw [mdS_T hL hL4 hp (by omega) hpp, mnT_hi hL hL4 hp k (by omega) (plA L M E k) hpp, mnT_hi hL hL4 hp k (by omega) (plA L M E k + 4) (by omega)]
theorem mnT_img (hL : L ≤ 512) (hL4 : L % 4 = 0) (hp : ∀ k, k < P → plQ T L M E k) {k o : Nat} (hk : k < P) (ho : wdA T (plA L M E k + 4) = nI (4 * o)) (ho2 : o < L / 4) : imgF (mnT g n T L M E ad (k + 1)) (L / 4) = upd (imgF (mnT g n T L M E ad k) (L / 4)) o (mdV (wdA T (plA L M E k)) (imgF (mnT g n T L M E ad k) (L / 4) o) (mdS g n T L (plA L M E k) ad) (mdS g n T L (plA L M E k) ad - (ad + wdA T (plA L M E k + 4)))) := by
  have hpp : 32 + L ≤ plA L M E k := by unfold plA; omega
  have hm := mdS_T (g := g) (n := n) (ad := ad) hL hL4 hp (k := k) (by omega) hpp
  have h0 := mnT_hi (g := g) (n := n) (ad := ad) hL hL4 hp k (by omega) (plA L M E k) hpp
  have h4 := mnT_hi (g := g) (n := n) (ad := ad) hL hL4 hp k (by omega) (plA L M E k + 4) (by omega)
  rw [mnT, mndT, hm, h0, h4, ho, nI_clamp (by omega), imgF_put _ _ ho2]
  congr 2
  unfold imgF
  rw [if_pos ho2]
end MND
theorem m1_of {x : Int32} (h : -1 ≤ x) (h2 : x < 0) : x = -1 := by
  rw [Int32.le_iff_toInt_le] at h
  rw [Int32.lt_iff_toInt_lt] at h2
  apply Int32.toInt_inj.mp
  have e : (-1 : Int32).toInt = -1 := by decide
  have e0 : (0 : Int32).toInt = 0 := by decide
  omega
set_option maxRecDepth 100000 in
set_option maxHeartbeats 2000000 in
theorem c_ML_mend (l : Launch) (G : eg_G) (x : Nat) (r : Nat → Nat) (f : Nat → Int32) (pl gn n : Nat) (marks : Int32) (F : Nat → Option Nat) (g : Nat → Nat → Int32) (sa A : Nat → Nat) (PP : va_W) (hT : TB F gn (SL g sa A n)) (hPS : ∀ e ∈ SL g sa A n, syC e ∈ PP) (hN : ((SL g sa A n).map (fun e => e.2.1)).Nodup) (ro tp t p ia : Nat) (ini exi gua : Int32) (la lb lc : Nat) (T : Nat → Int32) (Q : va_W) (Lf M E : Nat) (P : Nat) (ad : Int32) (hL : Lf ≤ 512) (hL4 : Lf % 4 = 0) (hM : M ≤ 8) (hP : P ≤ 24) (hpl : ∀ k, k < P → plQ T Lf M E k) (hfd : ∀ i, i < M → ∃ s, tsym g n (wdA T (imA Lf i)) = some s) (hQ1 : FLs G Q la M 12 (imV T Lf)) (hQ3 : FLs G Q lc P 14 (plW T Lf M E)) : Ct l G y_ML_mend 4 0 0 [.ref x, .ref ro, .int ad] [LO x r f, SO (r 1) pl gn (nI n) marks, SPl G pl F, SG gn, PP, RO ro tp t p (.ref ia) ini exi gua la lb lc, IMG G ia (Lf / 4) (imgF (mnT g n T Lf M E ad 0) (Lf / 4)), Q] (fun o S2 => (mnF g n T Lf M E P ad = none ∧ o = .inl (some (.int 1)) ∧ S2 = [LO x r f, SO (r 1) pl gn (nI n) marks, SPl G pl F, SG gn, PP, RO ro tp t p (.ref ia) ini exi gua la lb lc, IMG G ia (Lf / 4) (imgF (mnT g n T Lf M E ad P) (Lf / 4)), Q]) ∨ (∃ j, mnF g n T Lf M E P ad = some j ∧ o = .inl (some (.int 0)) ∧ S2 = [LO x r (va_up (va_up f 17 7) 18 (nI j)), SO (r 1) pl gn (nI n) marks, SPl G pl F, SG gn, PP, RO ro tp t p (.ref ia) ini exi gua la lb lc, IMG G ia (Lf / 4) (imgF (mnT g n T Lf M E ad j) (Lf / 4)), Q])) := by
  refine Ct.of cd_ML_mend (eg_catb rfl) (Nat.le_of_ble_eq_true rfl) ?_
  intro Γ hG
  have hR := hG.rm
  show Ex G Γ mu_ML_mend 0 [some (.ref x), some (.ref ro), some (.int ad), none, none, none, none, none, none] [] [LO x r f, SO (r 1) pl gn (nI n) marks, SPl G pl F, SG gn, PP, RO ro tp t p (.ref ia) ini exi gua la lb lc, IMG G ia (Lf / 4) (imgF (mnT g n T Lf M E ad 0) (Lf / 4)), Q] 0 0
  obtain ⟨b1, c1, y1, a1, ho1, hq1, hm1⟩ := hQ1
  obtain ⟨b3, c3, y3, a3, ho3, hq3, hm3⟩ := hQ3
  have LL : ∀ j, j ≤ P → (∀ i, i < j → (!(mndB g n (mnT g n T Lf M E ad i) Lf (plA Lf M E i) ad)) = false) → Ex G Γ mu_ML_mend 2 [some (.ref x), some (.ref ro), some (.int ad), some (.int (nI j)), none, none, none, none, none] [] [LO x r f, SO (r 1) pl gn (nI n) marks, SPl G pl F, SG gn, PP, RO ro tp t p (.ref ia) ini exi gua la lb lc, IMG G ia (Lf / 4) (imgF (mnT g n T Lf M E ad j) (Lf / 4)), Q] 0 0 := by
    refine eg_down P (fun j hj ih hno => ?_)
    refine ex_il d_ML_mend_2 rfl ?_
    refine ex_al d_ML_mend_3 rfl ?_
    refine ex_get1 5 fl_ML_156 d_ML_mend_4 rfl rfl ?_
    refine ex_cF [7] hR (c_AL_size l G Q lc b3 P y3 ho3) (eg_invV 7 d_ML_mend_7 cd_AL_size cx_ML_114 rfl rfl ho3 rfl rfl) cd_AL_size rfl rfl (Nat.le_of_ble_eq_true rfl) (by decide) (by decide) (by decide) (by decide) rfl ?_
    refine ex_eqS [LO x r f, SO (r 1) pl gn (nI n) marks, SPl G pl F, SG gn, PP, RO ro tp t p (.ref ia) ini exi gua la lb lc, IMG G ia (Lf / 4) (imgF (mnT g n T Lf M E ad j) (Lf / 4)), Q] rfl ?_
    refine ex_icmp_ge d_ML_mend_10 (fun z => ?_) (fun z => ?_)
    · have z := le_n (a := P) z
      obtain rfl : P = j := by omega
      have hres : mnF g n T Lf M E P ad = none := by rw [mnF, tfind_none hno]
      refine ex_k d_ML_mend_200 ?_
      exact ex_iret [LO x r f, SO (r 1) pl gn (nI n) marks, SPl G pl F, SG gn, PP, RO ro tp t p (.ref ia) ini exi gua la lb lc, IMG G ia (Lf / 4) (imgF (mnT g n T Lf M E ad P) (Lf / 4)), Q] hG d_ML_mend_201 rfl rfl (by decide) (by decide) (eg_sub.of rfl) (Or.inl ⟨hres, rfl, rfl⟩)
    have hlt := lt_n (a := P) z
    have hm := hm3 j hlt
    obtain ⟨hq5, hqo, hqs1, hqs2⟩ := hpl j hlt
    obtain ⟨o', ho', eo', ho4⟩ := isWd_of (E := Lf) (by omega) hqo
    obtain ⟨o, rfl⟩ : ∃ o, o' = 4 * o := ⟨o' / 4, by omega⟩
    have eo : (wdA T (plA Lf M E j + 4)) = nI (4 * o) := eo'
    have ho2 : o < Lf / 4 := by omega
    have J147 : ∀ (mo z : Int32), z = bI (!(mdO (wdA T (plA Lf M E j)) (mdS g n T Lf (plA Lf M E j) ad - (ad + wdA T (plA Lf M E j + 4))))) → Ex G Γ mu_ML_mend 147 [some (.ref x), some (.ref ro), some (.int ad), some (.int (nI j)), some (.ref (a3 j)), some (.int (if wdA T (plA Lf M E j + 8) < 0 then ad else g 6 ((tsym g n (wdA T (imA Lf (wdA T (plA Lf M E j + 8)).toNatClampNeg))).getD 0))), some (.int (mdS g n T Lf (plA Lf M E j) ad)), some (.int (mdS g n T Lf (plA Lf M E j) ad - (ad + wdA T (plA Lf M E j + 4)))), some (.int mo)] [.int z, .ref x] [LO x r f, SO (r 1) pl gn (nI n) marks, SPl G pl F, SG gn, PP, RO ro tp t p (.ref ia) ini exi gua la lb lc, IMG G ia (Lf / 4) (imgF (mnT g n T Lf M E ad j) (Lf / 4)), Q] 0 0 := by
      intro mo z hz
      subst hz
      refine ex_k d_ML_mend_147 ?_
      refine ex_il d_ML_mend_149 rfl ?_
      refine ex_cF [0] hR (c_ML_fails l G x r f (!(mdO (wdA T (plA Lf M E j)) (mdS g n T Lf (plA Lf M E j) ad - (ad + wdA T (plA Lf M E j + 4))))) 7 (nI j)) (eg_invV 0 d_ML_mend_150 cd_ML_fails cx_ML_134 rfl rfl List.mem_cons_self rfl rfl) cd_ML_fails rfl rfl (Nat.le_of_ble_eq_true rfl) (by decide) (by decide) (by decide) (by decide) rfl ?_
      cases hmo : mdO (wdA T (plA Lf M E j)) (mdS g n T Lf (plA Lf M E j) ad - (ad + wdA T (plA Lf M E j + 4))) with
      | false =>
        refine ex_if_eq d_ML_mend_153 (fun z => absurd z (by decide)) (fun _ => ?_)
        refine ex_k d_ML_mend_156 ?_
        have hres : mnF g n T Lf M E P ad = some j := by rw [mnF, tfind_some hlt (by rw [mndB_T hL hL4 hpl hlt, hmo]; rfl) hno]
        exact ex_iret [LO x r (va_up (va_up f 17 7) 18 (nI j)), SO (r 1) pl gn (nI n) marks, SPl G pl F, SG gn, PP, RO ro tp t p (.ref ia) ini exi gua la lb lc, IMG G ia (Lf / 4) (imgF (mnT g n T Lf M E ad j) (Lf / 4)), Q] hG d_ML_mend_157 rfl rfl (by decide) (by decide) (eg_sub.of rfl) (Or.inr ⟨j, hres, rfl, rfl⟩)
      | true =>
        refine ex_if_eq d_ML_mend_153 (fun _ => ?_) (fun z => absurd rfl z)
        refine ex_eqS [LO x r f, SO (r 1) pl gn (nI n) marks, SPl G pl F, SG gn, PP, RO ro tp t p (.ref ia) ini exi gua la lb lc, IMG G ia (Lf / 4) (imgF (mnT g n T Lf M E ad j) (Lf / 4)), Q] rfl ?_
        refine ex_al d_ML_mend_158 rfl ?_
        refine ex_get1 5 fl_ML_175 d_ML_mend_159 rfl rfl ?_
        refine ex_al d_ML_mend_162 rfl ?_
        refine ex_cF [7] hR (c_Pl_offset l G Q (a3 j) (wdA T (plA Lf M E j)) (wdA T (plA Lf M E j + 4)) (wdA T (plA Lf M E j + 8)) (wdA T (plA Lf M E j + 12)) hm) (eg_invV 7 d_ML_mend_164 cd_Pl_offset cx_ML_168 rfl rfl hm rfl rfl) cd_Pl_offset rfl rfl (Nat.le_of_ble_eq_true rfl) (by decide) (by decide) (by decide) (by decide) rfl ?_
        refine ex_eqS [LO x r f, SO (r 1) pl gn (nI n) marks, SPl G pl F, SG gn, PP, RO ro tp t p (.ref ia) ini exi gua la lb lc, IMG G ia (Lf / 4) (imgF (mnT g n T Lf M E ad j) (Lf / 4)), Q] rfl ?_
        refine ex_k d_ML_mend_167 ?_
        refine ex_idiv d_ML_mend_168 (by decide) ?_
        refine ex_eqT [.int (nI o), .ref ia] (by rw [eo, show nI (4 * o) / 4 = nI (4 * o / 4) from pk_div (d := 4) (by omega) (by decide) (by decide), show 4 * o / 4 = o by omega]) ?_
        refine ex_al d_ML_mend_169 rfl ?_
        refine ex_cF [7] hR (c_Pl_kind l G Q (a3 j) (wdA T (plA Lf M E j)) (wdA T (plA Lf M E j + 4)) (wdA T (plA Lf M E j + 8)) (wdA T (plA Lf M E j + 12)) hm) (eg_invV 7 d_ML_mend_171 cd_Pl_kind cx_ML_171 rfl rfl hm rfl rfl) cd_Pl_kind rfl rfl (Nat.le_of_ble_eq_true rfl) (by decide) (by decide) (by decide) (by decide) rfl ?_
        refine ex_eqS [LO x r f, SO (r 1) pl gn (nI n) marks, SPl G pl F, SG gn, PP, RO ro tp t p (.ref ia) ini exi gua la lb lc, IMG G ia (Lf / 4) (imgF (mnT g n T Lf M E ad j) (Lf / 4)), Q] rfl ?_
        refine ex_al d_ML_mend_174 rfl ?_
        refine ex_get1 5 fl_ML_175 d_ML_mend_175 rfl rfl ?_
        refine ex_al d_ML_mend_178 rfl ?_
        refine ex_cF [7] hR (c_Pl_offset l G Q (a3 j) (wdA T (plA Lf M E j)) (wdA T (plA Lf M E j + 4)) (wdA T (plA Lf M E j + 8)) (wdA T (plA Lf M E j + 12)) hm) (eg_invV 7 d_ML_mend_180 cd_Pl_offset cx_ML_168 rfl rfl hm rfl rfl) cd_Pl_offset rfl rfl (Nat.le_of_ble_eq_true rfl) (by decide) (by decide) (by decide) (by decide) rfl ?_
        refine ex_eqS [LO x r f, SO (r 1) pl gn (nI n) marks, SPl G pl F, SG gn, PP, RO ro tp t p (.ref ia) ini exi gua la lb lc, IMG G ia (Lf / 4) (imgF (mnT g n T Lf M E ad j) (Lf / 4)), Q] rfl ?_
        refine ex_k d_ML_mend_183 ?_
        refine ex_idiv d_ML_mend_184 (by decide) ?_
        refine ex_eqT [.int (nI o), .ref ia, .int (wdA T (plA Lf M E j)), .int (nI o), .ref ia] (by rw [eo, show nI (4 * o) / 4 = nI (4 * o / 4) from pk_div (d := 4) (by omega) (by decide) (by decide), show 4 * o / 4 = o by omega]) ?_
        refine ex_iald1 6 d_ML_mend_185 rfl (ix_e ho2 rfl (by omega)) ?_
        refine ex_il d_ML_mend_186 rfl ?_
        refine ex_il d_ML_mend_188 rfl ?_
        refine ex_cP hR (c_ML_mended l G (wdA T (plA Lf M E j)) (imgF (mnT g n T Lf M E ad j) (Lf / 4) o) (mdS g n T Lf (plA Lf M E j) ad) (mdS g n T Lf (plA Lf M E j) ad - (ad + wdA T (plA Lf M E j + 4)))) (eg_invS d_ML_mend_190 cd_ML_mended cx_ML_179 rfl rfl) cd_ML_mended (Nat.le_of_ble_eq_true rfl) (by decide) (by decide) (by decide) (by decide) rfl ?_
        refine ex_iastp 6 0 d_ML_mend_193 rfl rfl (ix_e ho2 rfl (by omega)) ?_
        refine ex_eqS [LO x r f, SO (r 1) pl gn (nI n) marks, SPl G pl F, SG gn, PP, RO ro tp t p (.ref ia) ini exi gua la lb lc, IMG G ia (Lf / 4) (imgF (mnT g n T Lf M E ad (j + 1)) (Lf / 4)), Q] (by rw [mnT_img hL hL4 hpl hlt eo ho2]; rfl) ?_
        refine ex_inc d_ML_mend_194 rfl ?_
        refine ex_goto d_ML_mend_197 ?_
        refine ex_forget [true, true, true, true, false, false, false, false, false] ?_
        exact ih hlt (fun i hi => by rcases Nat.lt_or_ge i j with w | w; exact hno i w; rw [show i = j by omega, mndB_T hL hL4 hpl hlt, hmo]; rfl)
    have J108 : ∀ mo : Int32, mo = (if (wdA T (plA Lf M E j)) = 4 then 1048576 else 4096) → Ex G Γ mu_ML_mend 108 [some (.ref x), some (.ref ro), some (.int ad), some (.int (nI j)), some (.ref (a3 j)), some (.int (if wdA T (plA Lf M E j + 8) < 0 then ad else g 6 ((tsym g n (wdA T (imA Lf (wdA T (plA Lf M E j + 8)).toNatClampNeg))).getD 0))), some (.int (mdS g n T Lf (plA Lf M E j) ad)), some (.int (mdS g n T Lf (plA Lf M E j) ad - (ad + wdA T (plA Lf M E j + 4)))), none] [.int mo] [LO x r f, SO (r 1) pl gn (nI n) marks, SPl G pl F, SG gn, PP, RO ro tp t p (.ref ia) ini exi gua la lb lc, IMG G ia (Lf / 4) (imgF (mnT g n T Lf M E ad j) (Lf / 4)), Q] 0 0 := by
      intro mo hmo
      refine ex_is d_ML_mend_108 (Nat.le_of_ble_eq_true rfl) ?_
      refine ex_al d_ML_mend_110 rfl ?_
      refine ex_al d_ML_mend_111 rfl ?_
      refine ex_cF [7] hR (c_Pl_kind l G Q (a3 j) (wdA T (plA Lf M E j)) (wdA T (plA Lf M E j + 4)) (wdA T (plA Lf M E j + 8)) (wdA T (plA Lf M E j + 12)) hm) (eg_invV 7 d_ML_mend_113 cd_Pl_kind cx_ML_171 rfl rfl hm rfl rfl) cd_Pl_kind rfl rfl (Nat.le_of_ble_eq_true rfl) (by decide) (by decide) (by decide) (by decide) rfl ?_
      refine ex_eqS [LO x r f, SO (r 1) pl gn (nI n) marks, SPl G pl F, SG gn, PP, RO ro tp t p (.ref ia) ini exi gua la lb lc, IMG G ia (Lf / 4) (imgF (mnT g n T Lf M E ad j) (Lf / 4)), Q] rfl ?_
      refine ex_k d_ML_mend_116 ?_
      refine ex_icmp_le d_ML_mend_117 (fun z => ?_) (fun z => ?_)
      · refine ex_k d_ML_mend_146 ?_
        exact J147 mo _ (by rw [mdO_lo z]; rfl)
      have hk45 := md45 hq5 z
      refine ex_il d_ML_mend_120 rfl ?_
      refine ex_k d_ML_mend_122 ?_
      refine ex_irem d_ML_mend_123 (by decide) ?_
      refine ex_if_ne d_ML_mend_124 (fun z2 => ?_) (fun z2 => ?_)
      · refine ex_k d_ML_mend_142 ?_
        refine ex_goto d_ML_mend_143 ?_
        exact J147 mo _ (by rw [mdO_odd hk45 z2]; rfl)
      have hev := mdO_ev hk45 hmo z2
      refine ex_il d_ML_mend_127 rfl ?_
      refine ex_il d_ML_mend_129 rfl ?_
      refine ex_ineg d_ML_mend_131 ?_
      refine ex_icmp_lt d_ML_mend_132 (fun z3 => ?_) (fun z3 => ?_)
      · refine ex_k d_ML_mend_142 ?_
        refine ex_goto d_ML_mend_143 ?_
        exact J147 mo _ (by rw [hev, decide_eq_true z3]; rfl)
      refine ex_il d_ML_mend_135 rfl ?_
      refine ex_il d_ML_mend_137 rfl ?_
      refine ex_icmp_lt d_ML_mend_139 (fun z4 => ?_) (fun z4 => ?_)
      · refine ex_k d_ML_mend_146 ?_
        exact J147 mo _ (by rw [hev, decide_eq_false z3, decide_eq_true z4]; rfl)
      refine ex_k d_ML_mend_142 ?_
      refine ex_goto d_ML_mend_143 ?_
      exact J147 mo _ (by rw [hev, decide_eq_false z3, decide_eq_false z4]; rfl)
    have J67 : ∀ z : Int32, z = (if wdA T (plA Lf M E j + 8) < 0 then ad else g 6 ((tsym g n (wdA T (imA Lf (wdA T (plA Lf M E j + 8)).toNatClampNeg))).getD 0)) → Ex G Γ mu_ML_mend 67 [some (.ref x), some (.ref ro), some (.int ad), some (.int (nI j)), some (.ref (a3 j)), none, none, none, none] [.int z] [LO x r f, SO (r 1) pl gn (nI n) marks, SPl G pl F, SG gn, PP, RO ro tp t p (.ref ia) ini exi gua la lb lc, IMG G ia (Lf / 4) (imgF (mnT g n T Lf M E ad j) (Lf / 4)), Q] 0 0 := by
      intro z hz
      subst hz
      refine ex_is d_ML_mend_67 (Nat.le_of_ble_eq_true rfl) ?_
      refine ex_il d_ML_mend_69 rfl ?_
      refine ex_al d_ML_mend_71 rfl ?_
      refine ex_cF [7] hR (c_Pl_addend l G Q (a3 j) (wdA T (plA Lf M E j)) (wdA T (plA Lf M E j + 4)) (wdA T (plA Lf M E j + 8)) (wdA T (plA Lf M E j + 12)) hm) (eg_invV 7 d_ML_mend_73 cd_Pl_addend cx_ML_165 rfl rfl hm rfl rfl) cd_Pl_addend rfl rfl (Nat.le_of_ble_eq_true rfl) (by decide) (by decide) (by decide) (by decide) rfl ?_
      refine ex_eqS [LO x r f, SO (r 1) pl gn (nI n) marks, SPl G pl F, SG gn, PP, RO ro tp t p (.ref ia) ini exi gua la lb lc, IMG G ia (Lf / 4) (imgF (mnT g n T Lf M E ad j) (Lf / 4)), Q] rfl ?_
      refine ex_iadd d_ML_mend_76 ?_
      refine ex_is d_ML_mend_77 (Nat.le_of_ble_eq_true rfl) ?_
      refine ex_il d_ML_mend_79 rfl ?_
      refine ex_il d_ML_mend_81 rfl ?_
      refine ex_isub d_ML_mend_82 ?_
      refine ex_al d_ML_mend_83 rfl ?_
      refine ex_cF [7] hR (c_Pl_offset l G Q (a3 j) (wdA T (plA Lf M E j)) (wdA T (plA Lf M E j + 4)) (wdA T (plA Lf M E j + 8)) (wdA T (plA Lf M E j + 12)) hm) (eg_invV 7 d_ML_mend_85 cd_Pl_offset cx_ML_168 rfl rfl hm rfl rfl) cd_Pl_offset rfl rfl (Nat.le_of_ble_eq_true rfl) (by decide) (by decide) (by decide) (by decide) rfl ?_
      refine ex_eqS [LO x r f, SO (r 1) pl gn (nI n) marks, SPl G pl F, SG gn, PP, RO ro tp t p (.ref ia) ini exi gua la lb lc, IMG G ia (Lf / 4) (imgF (mnT g n T Lf M E ad j) (Lf / 4)), Q] rfl ?_
      refine ex_isub d_ML_mend_88 ?_
      refine ex_eqT [.int (mdS g n T Lf (plA Lf M E j) ad - (ad + wdA T (plA Lf M E j + 4)))] (by rw [show ∀ a b c : Int32, a - b - c = a - (b + c) from fun a b c => by grind]; rfl) ?_
      refine ex_is d_ML_mend_89 (Nat.le_of_ble_eq_true rfl) ?_
      refine ex_al d_ML_mend_91 rfl ?_
      refine ex_cF [7] hR (c_Pl_kind l G Q (a3 j) (wdA T (plA Lf M E j)) (wdA T (plA Lf M E j + 4)) (wdA T (plA Lf M E j + 8)) (wdA T (plA Lf M E j + 12)) hm) (eg_invV 7 d_ML_mend_93 cd_Pl_kind cx_ML_171 rfl rfl hm rfl rfl) cd_Pl_kind rfl rfl (Nat.le_of_ble_eq_true rfl) (by decide) (by decide) (by decide) (by decide) rfl ?_
      refine ex_eqS [LO x r f, SO (r 1) pl gn (nI n) marks, SPl G pl F, SG gn, PP, RO ro tp t p (.ref ia) ini exi gua la lb lc, IMG G ia (Lf / 4) (imgF (mnT g n T Lf M E ad j) (Lf / 4)), Q] rfl ?_
      refine ex_k d_ML_mend_96 ?_
      refine ex_icmp_ne d_ML_mend_97 (fun z => ?_) (fun z => ?_)
      · refine ex_k d_ML_mend_105 ?_
        exact J108 _ (by rw [if_neg (show ¬ (wdA T (plA Lf M E j)) = 4 from z)])
      refine ex_k d_ML_mend_100 ?_
      refine ex_goto d_ML_mend_102 ?_
      exact J108 _ (by rw [if_pos (show (wdA T (plA Lf M E j)) = 4 from z)])
    refine ex_al d_ML_mend_13 rfl ?_
    refine ex_get1 5 fl_ML_156 d_ML_mend_14 rfl rfl ?_
    refine ex_il d_ML_mend_17 rfl ?_
    refine ex_cF [7] hR (c_AL_get l G Q lc b3 P _ y3 (lsF a3 P) ho3 (hq3 (by omega)).1 j hlt (hq3 (by omega)).2.1 (hq3 (by omega)).2.2) (eg_invV 7 d_ML_mend_18 cd_AL_get cx_ML_118 rfl rfl ho3 rfl rfl) cd_AL_get rfl rfl (Nat.le_of_ble_eq_true rfl) (by decide) (by decide) (by decide) (by decide) rfl ?_
    refine ex_eqS [LO x r f, SO (r 1) pl gn (nI n) marks, SPl G pl F, SG gn, PP, RO ro tp t p (.ref ia) ini exi gua la lb lc, IMG G ia (Lf / 4) (imgF (mnT g n T Lf M E ad j) (Lf / 4)), Q] rfl ?_
    refine ex_eqT [.ref (a3 j)] (by rw [lsF_lt _ hlt]; rfl) ?_
    refine ex_cast 7 d_ML_mend_21 kl_ML_159 (ci := 14) rfl rfl hm ?_
    refine ex_as d_ML_mend_24 (Nat.le_of_ble_eq_true rfl) ?_
    refine ex_al d_ML_mend_26 rfl ?_
    refine ex_cF [7] hR (c_Pl_source l G Q (a3 j) (wdA T (plA Lf M E j)) (wdA T (plA Lf M E j + 4)) (wdA T (plA Lf M E j + 8)) (wdA T (plA Lf M E j + 12)) hm) (eg_invV 7 d_ML_mend_28 cd_Pl_source cx_ML_161 rfl rfl hm rfl rfl) cd_Pl_source rfl rfl (Nat.le_of_ble_eq_true rfl) (by decide) (by decide) (by decide) (by decide) rfl ?_
    refine ex_eqS [LO x r f, SO (r 1) pl gn (nI n) marks, SPl G pl F, SG gn, PP, RO ro tp t p (.ref ia) ini exi gua la lb lc, IMG G ia (Lf / 4) (imgF (mnT g n T Lf M E ad j) (Lf / 4)), Q] rfl ?_
    refine ex_k d_ML_mend_31 ?_
    refine ex_icmp_ne d_ML_mend_32 (fun z => ?_) (fun z => ?_)
    rotate_left
    · refine ex_il d_ML_mend_35 rfl ?_
      refine ex_goto d_ML_mend_36 ?_
      exact J67 _ (by rw [if_pos (show (wdA T (plA Lf M E j + 8)) < 0 from by rw [show (wdA T (plA Lf M E j + 8)) = -1 from z]; decide)])
    have hs0 : ¬ (wdA T (plA Lf M E j + 8)) < 0 := fun w => z (m1_of hqs1 w)
    obtain ⟨i, hi0, ei⟩ := nI_of hs0
    have hi : i < M := (nI_ltI (by omega) (by omega)).mp (by rw [← ei]; exact hqs2)
    obtain ⟨s, hs⟩ := hfd i hi
    have hsm := hPS _ (SL_in (g := g) (sa := sa) (A := A) (tfind_lt hs).1)
    have hm1i := hm1 i hi
    refine ex_al d_ML_mend_39 rfl ?_
    refine ex_get1 0 fl_ML_19 d_ML_mend_40 rfl rfl ?_
    refine ex_al d_ML_mend_43 rfl ?_
    refine ex_get1 5 fl_ML_125 d_ML_mend_44 rfl rfl ?_
    refine ex_al d_ML_mend_47 rfl ?_
    refine ex_cF [7] hR (c_Pl_source l G Q (a3 j) (wdA T (plA Lf M E j)) (wdA T (plA Lf M E j + 4)) (wdA T (plA Lf M E j + 8)) (wdA T (plA Lf M E j + 12)) hm) (eg_invV 7 d_ML_mend_49 cd_Pl_source cx_ML_161 rfl rfl hm rfl rfl) cd_Pl_source rfl rfl (Nat.le_of_ble_eq_true rfl) (by decide) (by decide) (by decide) (by decide) rfl ?_
    refine ex_eqS [LO x r f, SO (r 1) pl gn (nI n) marks, SPl G pl F, SG gn, PP, RO ro tp t p (.ref ia) ini exi gua la lb lc, IMG G ia (Lf / 4) (imgF (mnT g n T Lf M E ad j) (Lf / 4)), Q] rfl ?_
    rw [ei]
    refine ex_cF [7] hR (c_AL_get l G Q la b1 M _ y1 (lsF a1 M) ho1 (hq1 (by omega)).1 i hi (hq1 (by omega)).2.1 (hq1 (by omega)).2.2) (eg_invV 7 d_ML_mend_52 cd_AL_get cx_ML_118 rfl rfl ho1 rfl rfl) cd_AL_get rfl rfl (Nat.le_of_ble_eq_true rfl) (by decide) (by decide) (by decide) (by decide) rfl ?_
    refine ex_eqS [LO x r f, SO (r 1) pl gn (nI n) marks, SPl G pl F, SG gn, PP, RO ro tp t p (.ref ia) ini exi gua la lb lc, IMG G ia (Lf / 4) (imgF (mnT g n T Lf M E ad j) (Lf / 4)), Q] rfl ?_
    refine ex_eqT [.ref (a1 i), .ref (r 1)] (by rw [lsF_lt _ hi]; rfl) ?_
    refine ex_cast 7 d_ML_mend_55 kl_ML_130 (ci := 12) rfl rfl hm1i ?_
    refine ex_cF [7] hR (c_Im_name l G Q (a1 i) (wdA T (imA Lf i)) (wdA T (imA Lf i + 4)) hm1i) (eg_invV 7 d_ML_mend_58 cd_Im_name cx_ML_132 rfl rfl hm1i rfl rfl) cd_Im_name rfl rfl (Nat.le_of_ble_eq_true rfl) (by decide) (by decide) (by decide) (by decide) rfl ?_
    refine ex_eqS [LO x r f, SO (r 1) pl gn (nI n) marks, SPl G pl F, SG gn, PP, RO ro tp t p (.ref ia) ini exi gua la lb lc, IMG G ia (Lf / 4) (imgF (mnT g n T Lf M E ad j) (Lf / 4)), Q] rfl ?_
    refine ex_cF [1, 2, 3, 4] hR (c_Ss_find l G (r 1) pl gn (nI n) marks F (SL g sa A n) PP hT hPS hN (wdA T (imA Lf i))) (eg_invV 1 d_ML_mend_61 cd_Ss_find cx_ML_83 rfl rfl List.mem_cons_self rfl rfl) cd_Ss_find rfl rfl (Nat.le_of_ble_eq_true rfl) (by decide) (by decide) (by decide) (by decide) rfl ?_
    refine ex_eqS [LO x r f, SO (r 1) pl gn (nI n) marks, SPl G pl F, SG gn, PP, RO ro tp t p (.ref ia) ini exi gua la lb lc, IMG G ia (Lf / 4) (imgF (mnT g n T Lf M E ad j) (Lf / 4)), Q] rfl ?_
    refine ex_eqT [.ref (sa s)] (by rw [sfind_SL, hs]; rfl) ?_
    refine ex_get 4 fl_ML_164 d_ML_mend_64 rfl hsm rfl ?_
    exact J67 _ (by rw [if_neg hs0, ei, nI_clamp hi0, hs]; rfl)
  refine ex_k d_ML_mend_0 ?_
  refine ex_is d_ML_mend_1 (Nat.le_of_ble_eq_true rfl) ?_
  exact LL 0 (Nat.zero_le _) (fun i hi => absurd hi (Nat.not_lt_zero _))
