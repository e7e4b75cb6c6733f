/-! THE TWIN, 4: one instruction, a run -/
def r5 (w s : Int32) : Int32 := w >>> (s &&& 31) &&& 31
def wRd (w : Int32) : Nat := (r5 w 7).toNatClampNeg
def wX (R : Nat → Int32) (w : Int32) : Int32 := R (r5 w 15).toNatClampNeg
def wY (R : Nat → Int32) (w : Int32) : Int32 := R (r5 w 20).toNatClampNeg
def wK (w : Int32) : Int32 := w >>> (12 &&& 31) &&& 7
def wI (w : Int32) : Int32 := w >>> (20 &&& 31)
def wT (w : Int32) : Int32 := (w.toUInt32 >>> ((25 : Int32).toUInt32 &&& Int32.toUInt32 31)).toInt32
def wJ (w : Int32) : Int32 := w >>> (31 &&& 31) <<< (20 &&& 31) ||| (w >>> (12 &&& 31) &&& 255) <<< (12 &&& 31) ||| (w >>> (20 &&& 31) &&& 1) <<< (11 &&& 31) ||| (w >>> (21 &&& 31) &&& 1023) <<< (1 &&& 31)
def wB (w : Int32) : Int32 := w >>> (31 &&& 31) <<< (12 &&& 31) ||| (w >>> (7 &&& 31) &&& 1) <<< (11 &&& 31) ||| (w >>> (25 &&& 31) &&& 63) <<< (5 &&& 31) ||| (w >>> (8 &&& 31) &&& 15) <<< (1 &&& 31)
def wS (w : Int32) : Int32 := w >>> (25 &&& 31) <<< (5 &&& 31) ||| r5 w 7
def ldN (k : Int32) : Int32 := 1 <<< ((k - k / 4 * 4) &&& 31)
def ldS (k v : Int32) : Int32 := if k = 0 then v.toInt8.toInt32 else if k = 1 then v.toInt16.toInt32 else v
def ldV (M : Nat → Int32) (n : Int32) (a : Nat) : Int32 := if n = 4 then wdA M a else if n = 2 then M a ||| M (a + 1) <<< (8 &&& 31) else M a
def ftT (k a : Int32) : Int32 := if k = 3 ∨ 5 < k then 3 else acI a (ldN k)
def ftV (M : Nat → Int32) (k a : Int32) : Int32 := ldS k (ldV M (ldN k) a.toNatClampNeg)
def stN (k : Int32) : Nat := if k = 0 then 1 else if k = 1 then 2 else 4
def stT (P : Int32 → Bool) (k a : Int32) : Int32 := if 2 < k then 3 else if ¬ acI a (nI (stN k)) = 0 then acI a (nI (stN k)) else if rany (fun j => P (a + nI j)) (stN k) = true then 6 else 0
/-- one instruction whose lowest seven bits are op: trap, memory, registers, next -/
def txo (op : Int32) (P : Int32 → Bool) (M R : Nat → Int32) (pc w : Int32) : Int32 × (Nat → Int32) × (Nat → Int32) × Int32 :=
  if op = 55 then (0, M, upd R (wRd w) (w &&& -4096), pc + 4)
  else if op = 23 then (0, M, upd R (wRd w) (pc + (w &&& -4096)), pc + 4)
  else if op = 111 then (0, M, upd R (wRd w) (pc + 4), pc + wJ w)
  else if op = 103 then (if wK w = 0 then (0, M, upd R (wRd w) (pc + 4), (wX R w + wI w) &&& -2) else (3, M, R, pc))
  else if op = 99 then (if wK w = 2 ∨ wK w = 3 then (3, M, R, pc) else (0, M, R, if soB (wK w) (wX R w) (wY R w) = true then pc + wB w else pc + 4))
  else if op = 3 then (ftT (wK w) (wX R w + wI w), M, (if ftT (wK w) (wX R w + wI w) = 0 then upd R (wRd w) (ftV M (wK w) (wX R w + wI w)) else R), (if ftT (wK w) (wX R w + wI w) = 0 then pc + 4 else pc))
  else if op = 35 then (stT P (wK w) (wX R w + wS w), (if stT P (wK w) (wX R w + wS w) = 0 then putB M (wX R w + wS w).toNatClampNeg (wY R w) (stN (wK w)) else M), R, (if stT P (wK w) (wX R w + wS w) = 0 then pc + 4 else pc))
  else if op = 19 then (if (wK w = 1 ∧ ¬ wT w = 0) ∨ (wK w = 5 ∧ ¬ wT w = 0 ∧ ¬ wT w = 32) then (3, M, R, pc) else (0, M, upd R (wRd w) (rkI (wK w) (wX R w) (if wK w = 1 ∨ wK w = 5 then r5 w 20 else wI w) (decide (wK w = 5 ∧ wT w = 32))), pc + 4))
  else if op = 51 then (if ¬ wT w = 0 ∧ (¬ wT w = 32 ∨ (¬ wK w = 0 ∧ ¬ wK w = 5)) then (3, M, R, pc) else (0, M, upd R (wRd w) (if wK w = 0 ∧ wT w = 32 then wX R w - wY R w else rkI (wK w) (wX R w) (wY R w) (decide (wT w = 32))), pc + 4))
  else (3, M, R, pc)
def tstep (P : Int32 → Bool) (M R : Nat → Int32) (pc : Int32) : Int32 × (Nat → Int32) × (Nat → Int32) × Int32 :=
  if ¬ pc - pc / 4 * 4 = 0 then (1, M, R, pc) else if pc < 0 ∨ 4096 ≤ pc then (2, M, R, pc) else txo (wdA M pc.toNatClampNeg &&& 127) P M R pc (wdA M pc.toNatClampNeg)
def gMR (g : Nat → Nat → Int32) (M R : Nat → Int32) : Nat → Nat → Int32 := va_up (va_up g 1 M) 22 R
theorem va_up_same {α : Type} (f : Nat → α) (k : Nat) : va_up f k (f k) = f := funext fun z => by by_cases e : z = k; rw [e]; exact va_up_self f k _; exact va_up_ne f _ e
theorem gMR_same (g : Nat → Nat → Int32) : gMR g (g 1) (g 22) = g := by
  show va_up (va_up g 1 (g 1)) 22 (g 22) = g
  rw [va_up_same, va_up_same]
theorem gMR_R (g : Nat → Nat → Int32) (R : Nat → Int32) : gMR g (g 1) R = va_up g 22 R := by
  show va_up (va_up g 1 (g 1)) 22 R = _
  rw [va_up_same]
theorem gMR_M (g : Nat → Nat → Int32) (M : Nat → Int32) : gMR g M (g 22) = va_up g 1 M := funext fun z => by
  by_cases e : z = 22
  · subst e; rfl
  · exact va_up_ne _ _ e
theorem r5_ix (w s : Int32) : ix (r5 w s) (r5 w s).toNatClampNeg 32 := ⟨rfl, pk_andIn _ 5 (by decide) (by decide)⟩
theorem wK_lt (w : Int32) : ∃ k : Nat, k < 8 ∧ wK w = nI k := pk_andE _ 3 (by decide)
theorem ldN_ne : ∀ k, k < 8 → ¬ ldN (nI k) = 0 := by decide
theorem ldN_in : ∀ k, k < 8 → ¬ (nI k = 3 ∨ 5 < nI k) → ldN (nI k) = 1 ∨ ldN (nI k) = 2 ∨ ldN (nI k) = 4 := by decide
theorem stN_sh : ∀ k, k < 8 → ¬ 2 < nI k → (1 : Int32) <<< (nI k &&& 31) = nI (stN (nI k)) := by decide
theorem stN_le (k : Int32) : 1 ≤ stN k ∧ stN k ≤ 4 := by unfold stN; split; omega; split <;> omega
theorem acI_0 {a : Int32} {n : Nat} (h0 : 0 < n) (hn : n < 2 ^ 31) (h : acI a (nI n) = 0) : ∃ j : Nat, j < 4096 ∧ a = nI j ∧ j % n = 0 := by
  unfold acI at h
  split at h
  · rename_i h1
    split at h
    · exact absurd h (by decide)
    · rename_i h2
      obtain ⟨j, hj, rfl⟩ := nI_of (x := a) (fun z => h2 (Or.inl z))
      refine ⟨j, ?_, rfl, ?_⟩
      · rcases Nat.lt_or_ge j 4096 with z | z
        · exact z
        · exact absurd (Or.inr ((nI_leI (a := 4096) (by decide) hj).mpr z)) h2
      · rw [pk_rem hj h0 hn] at h1
        exact (nI_eq (a := j % n) (b := 0) (by have := Nat.mod_lt j h0; omega) (by decide)).mp h1
  · exact absurd h (by decide)
theorem acI_ge (a n : Int32) : 0 ≤ acI a n := by unfold acI; split; split <;> decide; decide
theorem c_TM_bitsN (l : Launch) (G : eg_G) (w u v m : Int32) (hm : (1 : Int32) <<< (v &&& 31) - 1 = m) : Ct l G y_TM_bits 1 0 0 [.int w, .int u, .int v] [] (rF (some (.int (w >>> (u &&& 31) &&& m))) []) := by
  subst hm
  exact c_TM_bits l G w u v
set_option maxRecDepth 100000 in
theorem c_TM_access (l : Launch) (G : eg_G) (a n : Int32) (hn : ¬ n = 0) : Ct l G y_TM_access 1 0 0 [.int a, .int n] [] (rF (some (.int (acI a n))) []) := by
  refine Ct.of cd_TM_access (eg_catb rfl) (Nat.le_of_ble_eq_true rfl) ?_
  intro Γ hG
  have hR := hG.rm
  show Ex G Γ mu_TM_access 0 [some (.int a), some (.int n)] [] [] 0 0
  have J : ∀ z : Int32, z = acI a n → Ex G Γ mu_TM_access 26 [some (.int a), some (.int n)] [.int z] [] 0 0 := by
    intro z hz
    subst hz
    exact ex_iret [] hG d_TM_access_26 rfl rfl (by decide) (by decide) (eg_sub.of rfl) ⟨rfl, rfl⟩
  refine ex_il d_TM_access_0 rfl ?_
  refine ex_il d_TM_access_1 rfl ?_
  refine ex_irem d_TM_access_2 hn ?_
  refine ex_if_eq d_TM_access_3 (fun h3 => ?_) (fun h3 => ?_)
  · skip
    have h3 : a - a / n * n = 0 := h3
    refine ex_il d_TM_access_10 rfl ?_
    refine ex_if_lt d_TM_access_11 (fun h11 => ?_) (fun h11 => ?_)
    · skip
      refine ex_k d_TM_access_21 ?_
      refine ex_goto d_TM_access_22 ?_
      exact J _ (by rw [acI, if_pos h3]; clear J hG hR h3; grind)
    · skip
      refine ex_il d_TM_access_14 rfl ?_
      refine ex_k d_TM_access_15 ?_
      refine ex_icmp_lt d_TM_access_18 (fun h18 => ?_) (fun h18 => ?_)
      · skip
        refine ex_k d_TM_access_25 ?_
        exact J _ (by rw [acI, if_pos h3]; clear J hG hR h3; grind)
      · skip
        refine ex_k d_TM_access_21 ?_
        refine ex_goto d_TM_access_22 ?_
        exact J _ (by rw [acI, if_pos h3]; clear J hG hR h3; grind)
  · skip
    have h3 : ¬ a - a / n * n = 0 := h3
    refine ex_k d_TM_access_6 ?_
    refine ex_goto d_TM_access_7 ?_
    exact J _ (by rw [acI, if_neg h3])
set_option maxRecDepth 100000 in
theorem c_TM_reckon (l : Launch) (G : eg_G) (k x y : Int32) (o : Bool) : Ct l G y_TM_reckon 2 0 0 [.int k, .int x, .int y, .int (bI o)] [] (rF (some (.int (rkI k x y o))) []) := by
  refine Ct.of cd_TM_reckon (eg_catb rfl) (Nat.le_of_ble_eq_true rfl) ?_
  intro Γ hG
  have hR := hG.rm
  show Ex G Γ mu_TM_reckon 0 [some (.int k), some (.int x), some (.int y), some (.int (bI o))] [] [] 0 0
  refine ex_il d_TM_reckon_0 rfl ?_
  by_cases e1_0 : k = 0
  · skip
    refine ex_eqT (.int 0 :: _) (by rw [e1_0]) ?_
    refine ex_tabIn (tgt := 44) d_TM_reckon_1 (by decide) (by decide) (by rfl) (by decide) ?_
    refine ex_il d_TM_reckon_44 rfl ?_
    refine ex_il d_TM_reckon_45 rfl ?_
    refine ex_iadd d_TM_reckon_46 ?_
    exact ex_iret [] hG d_TM_reckon_47 rfl rfl (by decide) (by decide) (eg_sub.of rfl) ⟨by rw [e1_0]; rfl, rfl⟩
  by_cases e1_1 : k = 1
  · skip
    refine ex_eqT (.int 1 :: _) (by rw [e1_1]) ?_
    refine ex_tabIn (tgt := 48) d_TM_reckon_1 (by decide) (by decide) (by rfl) (by decide) ?_
    refine ex_il d_TM_reckon_48 rfl ?_
    refine ex_il d_TM_reckon_49 rfl ?_
    refine ex_ishl d_TM_reckon_50 ?_
    exact ex_iret [] hG d_TM_reckon_51 rfl rfl (by decide) (by decide) (eg_sub.of rfl) ⟨by rw [e1_1]; rfl, rfl⟩
  by_cases e1_2 : k = 2
  · skip
    refine ex_eqT (.int 2 :: _) (by rw [e1_2]) ?_
    refine ex_tabIn (tgt := 52) d_TM_reckon_1 (by decide) (by decide) (by rfl) (by decide) ?_
    refine ex_il d_TM_reckon_52 rfl ?_
    refine ex_il d_TM_reckon_53 rfl ?_
    have J : ∀ z : Int32, z = bI (decide (x < y)) → Ex G Γ mu_TM_reckon 62 [some (.int k), some (.int x), some (.int y), some (.int (bI o))] [.int z] [] 0 0 := by
      intro z hz
      subst hz
      exact ex_iret [] hG d_TM_reckon_62 rfl rfl (by decide) (by decide) (eg_sub.of rfl) ⟨by rw [e1_2]; rfl, rfl⟩
    refine ex_icmp_ge d_TM_reckon_54 (fun h54 => ?_) (fun h54 => ?_)
    · skip
      refine ex_k d_TM_reckon_61 ?_
      exact J _ (by clear J hG hR; grind [bI])
    · skip
      refine ex_k d_TM_reckon_57 ?_
      refine ex_goto d_TM_reckon_58 ?_
      exact J _ (by clear J hG hR; grind [bI])
  by_cases e1_3 : k = 3
  · skip
    refine ex_eqT (.int 3 :: _) (by rw [e1_3]) ?_
    refine ex_tabIn (tgt := 63) d_TM_reckon_1 (by decide) (by decide) (by rfl) (by decide) ?_
    refine ex_il d_TM_reckon_63 rfl ?_
    refine ex_il d_TM_reckon_64 rfl ?_
    refine ex_cP hR (c_TM_isBelow l G x y) (eg_invS d_TM_reckon_65 cd_TM_isBelow cx_TM_217 rfl rfl) cd_TM_isBelow (Nat.le_of_ble_eq_true rfl) (by decide) (by decide) (by decide) (by decide) rfl ?_
    refine ex_if_eq d_TM_reckon_68 (fun h68 => ?_) (fun h68 => ?_)
    · skip
      have h68 := bI_0.mp h68
      refine ex_k d_TM_reckon_75 ?_
      exact ex_iret [] hG d_TM_reckon_76 rfl rfl (by decide) (by decide) (eg_sub.of rfl) ⟨by rw [e1_3, show rkI 3 x y o = bI (blB x y) from by rw [rkI, if_neg (by decide), if_neg (by decide), if_neg (by decide), if_pos rfl], h68]; rfl, rfl⟩
    · skip
      have h68 : blB x y = true := by cases hb : blB x y; exact absurd (bI_0.mpr hb) h68; rfl
      refine ex_k d_TM_reckon_71 ?_
      refine ex_goto d_TM_reckon_72 ?_
      exact ex_iret [] hG d_TM_reckon_76 rfl rfl (by decide) (by decide) (eg_sub.of rfl) ⟨by rw [e1_3, show rkI 3 x y o = bI (blB x y) from by rw [rkI, if_neg (by decide), if_neg (by decide), if_neg (by decide), if_pos rfl], h68]; rfl, rfl⟩
  by_cases e1_4 : k = 4
  · skip
    refine ex_eqT (.int 4 :: _) (by rw [e1_4]) ?_
    refine ex_tabIn (tgt := 77) d_TM_reckon_1 (by decide) (by decide) (by rfl) (by decide) ?_
    refine ex_il d_TM_reckon_77 rfl ?_
    refine ex_il d_TM_reckon_78 rfl ?_
    refine ex_ixor d_TM_reckon_79 ?_
    exact ex_iret [] hG d_TM_reckon_80 rfl rfl (by decide) (by decide) (eg_sub.of rfl) ⟨by rw [e1_4]; rfl, rfl⟩
  by_cases e1_5 : k = 5
  · skip
    refine ex_eqT (.int 5 :: _) (by rw [e1_5]) ?_
    refine ex_tabIn (tgt := 81) d_TM_reckon_1 (by decide) (by decide) (by rfl) (by decide) ?_
    refine ex_il d_TM_reckon_81 rfl ?_
    refine ex_if_eq d_TM_reckon_82 (fun h82 => ?_) (fun h82 => ?_)
    · skip
      have h82 := bI_0.mp h82
      refine ex_il d_TM_reckon_91 rfl ?_
      refine ex_il d_TM_reckon_92 rfl ?_
      refine ex_iushr d_TM_reckon_93 ?_
      exact ex_iret [] hG d_TM_reckon_94 rfl rfl (by decide) (by decide) (eg_sub.of rfl) ⟨by rw [e1_5, h82]; rfl, rfl⟩
    · skip
      have h82 : o = true := by cases o; exact absurd (bI_0.mpr rfl) h82; rfl
      refine ex_il d_TM_reckon_85 rfl ?_
      refine ex_il d_TM_reckon_86 rfl ?_
      refine ex_ishr d_TM_reckon_87 ?_
      refine ex_goto d_TM_reckon_88 ?_
      exact ex_iret [] hG d_TM_reckon_94 rfl rfl (by decide) (by decide) (eg_sub.of rfl) ⟨by rw [e1_5, h82]; rfl, rfl⟩
  by_cases e1_6 : k = 6
  · skip
    refine ex_eqT (.int 6 :: _) (by rw [e1_6]) ?_
    refine ex_tabIn (tgt := 95) d_TM_reckon_1 (by decide) (by decide) (by rfl) (by decide) ?_
    refine ex_il d_TM_reckon_95 rfl ?_
    refine ex_il d_TM_reckon_96 rfl ?_
    refine ex_ior d_TM_reckon_97 ?_
    exact ex_iret [] hG d_TM_reckon_98 rfl rfl (by decide) (by decide) (eg_sub.of rfl) ⟨by rw [e1_6]; rfl, rfl⟩
  refine ex_tabOut (tgt := 99) d_TM_reckon_1 (by have a0 := ne_t (k := 0) (by decide) e1_0; have a1 := ne_t (k := 1) (by decide) e1_1; have a2 := ne_t (k := 2) (by decide) e1_2; have a3 := ne_t (k := 3) (by decide) e1_3; have a4 := ne_t (k := 4) (by decide) e1_4; have a5 := ne_t (k := 5) (by decide) e1_5; have a6 := ne_t (k := 6) (by decide) e1_6; omega) (by decide) ?_
  refine ex_il d_TM_reckon_99 rfl ?_
  refine ex_il d_TM_reckon_100 rfl ?_
  refine ex_iand d_TM_reckon_101 ?_
  exact ex_iret [] hG d_TM_reckon_102 rfl rfl (by decide) (by decide) (eg_sub.of rfl) ⟨by rw [rkI, if_neg e1_0, if_neg e1_1, if_neg e1_2, if_neg e1_3, if_neg e1_4, if_neg e1_5, if_neg e1_6], rfl⟩
set_option maxRecDepth 100000 in
theorem c_TM_fetch (l : Launch) (G : eg_G) (h : Nat) (q : Nat → Nat) (f : Nat → Int32) (g : Nat → Nat → Int32) (k : Nat) (hk : k < 8) (a rd : Int32) (rn : Nat) (hr : ix rd rn 32) : Ct l G y_TM_fetch 2 0 0 [.ref h, .int (nI k), .int a, .int rd] [TW G h q f g] (rF (some (.int (ftT (nI k) a))) [TW G h q f (if ftT (nI k) a = 0 then va_up g 22 (upd (g 22) rn (ftV (g 1) (nI k) a)) else g)]) := by
  refine Ct.of cd_TM_fetch (eg_catb rfl) (Nat.le_of_ble_eq_true rfl) ?_
  intro Γ hG
  have hR := hG.rm
  show Ex G Γ mu_TM_fetch 0 [some (.ref h), some (.int (nI k)), some (.int a), some (.int rd), none, none, none] [] [TW G h q f g] 0 0
  refine ex_il d_TM_fetch_0 rfl ?_
  refine ex_k d_TM_fetch_1 ?_
  refine ex_icmp_eq d_TM_fetch_2 (fun h2 => ?_) (fun h2 => ?_)
  · skip
    have hft3 : ftT (nI k) a = 3 := if_pos (Or.inl h2)
    refine ex_k d_TM_fetch_10 ?_
    exact ex_iret [TW G h q f g] hG d_TM_fetch_11 rfl rfl (by decide) (by decide) (eg_sub.of rfl) ⟨by rw [hft3], by rw [hft3, if_neg (by decide)]⟩
  · skip
    refine ex_il d_TM_fetch_5 rfl ?_
    refine ex_k d_TM_fetch_6 ?_
    refine ex_icmp_le d_TM_fetch_7 (fun h7 => ?_) (fun h7 => ?_)
    · skip
      have hk3 : ¬ (nI k = 3 ∨ 5 < nI k) := by clear hG hR; grind
      have hN := ldN_in k hk hk3
      have hft : ftT (nI k) a = acI a (ldN (nI k)) := if_neg hk3
      refine ex_k d_TM_fetch_12 ?_
      refine ex_il d_TM_fetch_13 rfl ?_
      refine ex_k d_TM_fetch_14 ?_
      refine ex_irem d_TM_fetch_15 (by decide) ?_
      refine ex_ishl d_TM_fetch_16 ?_
      refine ex_is d_TM_fetch_17 (Nat.le_of_ble_eq_true rfl) ?_
      refine ex_il d_TM_fetch_19 rfl ?_
      refine ex_il d_TM_fetch_20 rfl ?_
      refine ex_cP hR (c_TM_access l G a (ldN (nI k)) (ldN_ne k hk)) (eg_invS d_TM_fetch_22 cd_TM_access cx_TM_220 rfl rfl) cd_TM_access (Nat.le_of_ble_eq_true rfl) (by decide) (by decide) (by decide) (by decide) rfl ?_
      refine ex_is d_TM_fetch_25 (Nat.le_of_ble_eq_true rfl) ?_
      refine ex_il d_TM_fetch_27 rfl ?_
      refine ex_if_le d_TM_fetch_29 (fun h29 => ?_) (fun h29 => ?_)
      · skip
        have h0 : acI a (ldN (nI k)) = 0 := Int32.le_antisymm h29 (acI_ge _ _)
        have hft0 : ftT (nI k) a = 0 := hft.trans h0
        have JV : ∀ z : Int32, z = ldV (g 1) (ldN (nI k)) a.toNatClampNeg → Ex G Γ mu_TM_fetch 81 [some (.ref h), some (.int (nI k)), some (.int a), some (.int rd), some (.int (ldN (nI k))), some (.int (acI a (ldN (nI k)))), none] [.int z] [TW G h q f g] 0 0 := by
          intro z hz
          subst hz
          refine ex_is d_TM_fetch_81 (Nat.le_of_ble_eq_true rfl) ?_
          have JW : ∀ z : Int32, z = ftV (g 1) (nI k) a → Ex G Γ mu_TM_fetch 111 [some (.ref h), some (.int (nI k)), some (.int a), some (.int rd), some (.int (ldN (nI k))), some (.int (acI a (ldN (nI k)))), some (.int (ldV (g 1) (ldN (nI k)) a.toNatClampNeg))] [.int z, .int rd, .ref (q 22)] [TW G h q f g] 0 0 := by
            intro z hz
            subst hz
            refine ts_22 0 d_TM_fetch_111 rfl hr ?_
            refine ex_k d_TM_fetch_112 ?_
            exact ex_iret [TW G h q f (va_up g 22 (upd (g 22) rn (ftV (g 1) (nI k) a)))] hG d_TM_fetch_113 rfl rfl (by decide) (by decide) (eg_sub.of rfl) ⟨by rw [hft0], by rw [if_pos hft0]⟩
          refine ex_al d_TM_fetch_83 rfl ?_
          refine tg 0 fl_TM_54 d_TM_fetch_84 rfl rfl ?_
          refine ex_il d_TM_fetch_87 rfl ?_
          refine ex_il d_TM_fetch_88 rfl ?_
          refine ex_if_ne d_TM_fetch_89 (fun h89 => ?_) (fun h89 => ?_)
          · skip
            refine ex_il d_TM_fetch_98 rfl ?_
            refine ex_k d_TM_fetch_99 ?_
            refine ex_icmp_ne d_TM_fetch_100 (fun h100 => ?_) (fun h100 => ?_)
            · skip
              refine ex_il d_TM_fetch_109 rfl ?_
              exact JW _ (by clear JW hG hR; unfold ftV ldS; grind)
            · skip
              refine ex_il d_TM_fetch_103 rfl ?_
              refine ex_i2s d_TM_fetch_105 ?_
              refine ex_goto d_TM_fetch_106 ?_
              exact JW _ (by clear JW hG hR; unfold ftV ldS; grind)
          · skip
            refine ex_il d_TM_fetch_92 rfl ?_
            refine ex_i2b d_TM_fetch_94 ?_
            refine ex_goto d_TM_fetch_95 ?_
            exact JW _ (by clear JW hG hR; unfold ftV ldS; grind)
        refine ex_il d_TM_fetch_35 rfl ?_
        refine ex_k d_TM_fetch_37 ?_
        refine ex_icmp_ne d_TM_fetch_38 (fun h38 => ?_) (fun h38 => ?_)
        · skip
          have h38 : ¬ ldN (nI k) = 4 := h38
          refine ex_il d_TM_fetch_49 rfl ?_
          refine ex_k d_TM_fetch_51 ?_
          refine ex_icmp_ne d_TM_fetch_52 (fun h52 => ?_) (fun h52 => ?_)
          · skip
            have h52 : ¬ ldN (nI k) = 2 := h52
            have h52 : ldN (nI k) = 1 := by rcases hN with z | z | z; exact z; exact absurd z h52; exact absurd z h38
            obtain ⟨j, hj, hja, hj4⟩ := acI_0 (n := 1) (by decide) (by decide) (show acI a (nI 1) = 0 by rw [show nI 1 = 1 from rfl, ← h52]; exact h0)
            subst hja
            refine ex_al d_TM_fetch_76 rfl ?_
            refine ex_il d_TM_fetch_77 rfl ?_
            refine ex_cF [0] hR (c_TM_byteAt l G h q f g j (by omega)) (eg_invV 0 d_TM_fetch_78 cd_TM_byteAt cx_TM_224 rfl rfl List.mem_cons_self rfl rfl) cd_TM_byteAt rfl rfl (Nat.le_of_ble_eq_true rfl) (by decide) (by decide) (by decide) (by decide) rfl ?_
            exact JV _ (by rw [nI_clamp (by omega), ldV, h52]; rfl)
          · skip
            have h52 : ldN (nI k) = 2 := h52
            obtain ⟨j, hj, hja, hj4⟩ := acI_0 (n := 2) (by decide) (by decide) (show acI a (nI 2) = 0 by rw [show nI 2 = 2 from rfl, ← h52]; exact h0)
            subst hja
            refine ex_al d_TM_fetch_55 rfl ?_
            refine tg 0 fl_TM_7 d_TM_fetch_56 rfl rfl ?_
            refine ex_il d_TM_fetch_59 rfl ?_
            refine tl_1 0 d_TM_fetch_60 rfl (ix_e (j := j) (by omega)) ?_
            refine ex_al d_TM_fetch_61 rfl ?_
            refine tg 0 fl_TM_7 d_TM_fetch_62 rfl rfl ?_
            refine ex_il d_TM_fetch_65 rfl ?_
            refine ex_k d_TM_fetch_66 ?_
            refine ex_iadd d_TM_fetch_67 ?_
            refine tl_1 0 d_TM_fetch_68 rfl (ix_e (j := j + 1) (by omega) (nI_add j 1)) ?_
            refine ex_k d_TM_fetch_69 ?_
            refine ex_ishl d_TM_fetch_71 ?_
            refine ex_ior d_TM_fetch_72 ?_
            refine ex_goto d_TM_fetch_73 ?_
            exact JV _ (by rw [nI_clamp (by omega), ldV, h52]; rfl)
        · skip
          have h38 : ldN (nI k) = 4 := h38
          obtain ⟨j, hj, hja, hj4⟩ := acI_0 (n := 4) (by decide) (by decide) (show acI a (nI 4) = 0 by rw [show nI 4 = 4 from rfl, ← h38]; exact h0)
          subst hja
          refine ex_al d_TM_fetch_41 rfl ?_
          refine ex_il d_TM_fetch_42 rfl ?_
          refine ex_cF [0] hR (c_TM_wordAt l G h q f g j (by omega)) (eg_invV 0 d_TM_fetch_43 cd_TM_wordAt cx_TM_76 rfl rfl List.mem_cons_self rfl rfl) cd_TM_wordAt rfl rfl (Nat.le_of_ble_eq_true rfl) (by decide) (by decide) (by decide) (by decide) rfl ?_
          refine ex_goto d_TM_fetch_46 ?_
          exact JV _ (by rw [nI_clamp (by omega), ldV, if_pos h38])
      · skip
        have h29 : ¬ acI a (ldN (nI k)) ≤ 0 := h29
        have hftn : ¬ ftT (nI k) a = 0 := fun z => h29 (by rw [← hft, z]; decide)
        refine ex_il d_TM_fetch_32 rfl ?_
        exact ex_iret [TW G h q f g] hG d_TM_fetch_34 rfl rfl (by decide) (by decide) (eg_sub.of rfl) ⟨by rw [hft], by rw [if_neg hftn]⟩
    · skip
      have hft3 : ftT (nI k) a = 3 := if_pos (Or.inr (Int32.not_le.mp h7))
      refine ex_k d_TM_fetch_10 ?_
      exact ex_iret [TW G h q f g] hG d_TM_fetch_11 rfl rfl (by decide) (by decide) (eg_sub.of rfl) ⟨by rw [hft3], by rw [hft3, if_neg (by decide)]⟩
set_option maxRecDepth 100000 in
theorem c_TM_store (l : Launch) (G : eg_G) (h : Nat) (q : Nat → Nat) (f : Nat → Int32) (g : Nat → Nat → Int32) (k : Nat) (hk : k < 8) (a v : Int32) (hse : f 2 = 0 ∨ f 2 = 1) : Ct l G y_TM_store 2 0 0 [.ref h, .int (nI k), .int a, .int v] [TW G h q f g] (rF (some (.int (stT (gdB f g) (nI k) a))) [TW G h q f (if stT (gdB f g) (nI k) a = 0 then va_up g 1 (putB (g 1) a.toNatClampNeg v (stN (nI k))) else g)]) := by
  refine Ct.of cd_TM_store (eg_catb rfl) (Nat.le_of_ble_eq_true rfl) ?_
  intro Γ hG
  have hR := hG.rm
  show Ex G Γ mu_TM_store 0 [some (.ref h), some (.int (nI k)), some (.int a), some (.int v), none, none, none] [] [TW G h q f g] 0 0
  refine ex_il d_TM_store_0 rfl ?_
  refine ex_k d_TM_store_1 ?_
  refine ex_icmp_le d_TM_store_2 (fun h2 => ?_) (fun h2 => ?_)
  · skip
    have h2 : ¬ 2 < nI k := Int32.not_lt.mpr h2
    have hsh := stN_sh k hk h2
    have hb := stN_le (nI k)
    have hst : stT (gdB f g) (nI k) a = if ¬ acI a (nI (stN (nI k))) = 0 then acI a (nI (stN (nI k))) else if rany (fun j => gdB f g (a + nI j)) (stN (nI k)) = true then 6 else 0 := if_neg h2
    refine ex_k d_TM_store_7 ?_
    refine ex_il d_TM_store_8 rfl ?_
    refine ex_ishl d_TM_store_9 ?_
    rw [hsh]
    refine ex_is d_TM_store_10 (Nat.le_of_ble_eq_true rfl) ?_
    refine ex_il d_TM_store_12 rfl ?_
    refine ex_il d_TM_store_13 rfl ?_
    refine ex_cP hR (c_TM_access l G a (nI (stN (nI k))) (nI_ne0 (by omega) (by omega))) (eg_invS d_TM_store_15 cd_TM_access cx_TM_220 rfl rfl) cd_TM_access (Nat.le_of_ble_eq_true rfl) (by decide) (by decide) (by decide) (by decide) rfl ?_
    refine ex_is d_TM_store_18 (Nat.le_of_ble_eq_true rfl) ?_
    refine ex_il d_TM_store_20 rfl ?_
    refine ex_if_le d_TM_store_22 (fun h22 => ?_) (fun h22 => ?_)
    · skip
      have h0 : acI a (nI (stN (nI k))) = 0 := Int32.le_antisymm h22 (acI_ge _ _)
      rw [if_neg (by rw [h0]; decide)] at hst
      obtain ⟨j0, hj0, hja, hjm⟩ := acI_0 (n := stN (nI k)) (by omega) (by omega) h0
      have hj1 : j0 + stN (nI k) ≤ 4096 := by
        have e1 : stN (nI k) = 1 ∨ stN (nI k) = 2 ∨ stN (nI k) = 4 := by unfold stN; split; exact Or.inl rfl; split; exact Or.inr (Or.inl rfl); exact Or.inr (Or.inr rfl)
        rcases e1 with e1 | e1 | e1 <;> rw [e1] at hjm ⊢ <;> omega
      refine ex_k d_TM_store_28 ?_
      refine ex_is d_TM_store_29 (Nat.le_of_ble_eq_true rfl) ?_
      have L : ∀ j, j ≤ stN (nI k) → rany (fun j => gdB f g (a + nI j)) j = false → Ex G Γ mu_TM_store 31 [some (.ref h), some (.int (nI k)), some (.int a), some (.int v), some (.int (nI (stN (nI k)))), some (.int (acI a (nI (stN (nI k))))), some (.int (nI j))] [] [TW G h q f g] 0 0 := by
        refine eg_down (stN (nI k)) (fun j hj ih hno => ?_)
        refine ex_il d_TM_store_31 rfl ?_
        refine ex_il d_TM_store_33 rfl ?_
        refine ex_icmp_ge d_TM_store_35 (fun h35 => ?_) (fun h35 => ?_)
        · skip
          have h35 := le_n (a := stN (nI k)) h35
          have hjn : j = stN (nI k) := by omega
          rw [hjn] at hno
          rw [if_neg (by rw [hno]; decide)] at hst
          rw [hja]
          refine ex_al d_TM_store_58 rfl ?_
          refine ex_il d_TM_store_59 rfl ?_
          refine ex_il d_TM_store_60 rfl ?_
          refine ex_il d_TM_store_61 rfl ?_
          refine ex_cV [0] hR (c_TM_put l G h q f g j0 v (stN (nI k)) (by omega) hj1) (eg_invV 0 d_TM_store_63 cd_TM_put cx_TM_72 rfl rfl List.mem_cons_self rfl rfl) cd_TM_put rfl rfl (Nat.le_of_ble_eq_true rfl) (by decide) (by decide) (by decide) (by decide) rfl ?_
          refine ex_k d_TM_store_66 ?_
          exact ex_iret [TW G h q f (va_up g 1 (putB (g 1) j0 v (stN (nI k))))] hG d_TM_store_67 rfl rfl (by decide) (by decide) (eg_sub.of rfl) ⟨by rw [hst], by rw [hst, if_pos rfl, hja, nI_clamp (by omega)]⟩
        · skip
          have hlt := lt_n (a := stN (nI k)) h35
          refine ex_al d_TM_store_38 rfl ?_
          refine ex_il d_TM_store_39 rfl ?_
          refine ex_il d_TM_store_40 rfl ?_
          refine ex_iadd d_TM_store_42 ?_
          refine ex_cF [0] hR (c_TM_guarded l G h q f g (a + nI j) hse) (eg_invV 0 d_TM_store_43 cd_TM_guarded cx_TM_64 rfl rfl List.mem_cons_self rfl rfl) cd_TM_guarded rfl rfl (Nat.le_of_ble_eq_true rfl) (by decide) (by decide) (by decide) (by decide) rfl ?_
          refine ex_if_eq d_TM_store_46 (fun h46 => ?_) (fun h46 => ?_)
          · skip
            have h46 := bI_0.mp h46
            refine ex_inc d_TM_store_52 rfl ?_
            refine ex_goto d_TM_store_55 ?_
            exact ih hlt (by rw [rany_s, hno, h46]; rfl)
          · skip
            have h46 : gdB f g (a + nI j) = true := by cases hb2 : gdB f g (a + nI j); exact absurd (bI_0.mpr hb2) h46; rfl
            rw [if_pos (rany_iff.mpr ⟨j, hlt, h46⟩)] at hst
            refine ex_k d_TM_store_49 ?_
            exact ex_iret [TW G h q f g] hG d_TM_store_51 rfl rfl (by decide) (by decide) (eg_sub.of rfl) ⟨by rw [hst], by rw [hst, if_neg (by decide)]⟩
      exact L 0 (Nat.zero_le _) rfl
    · skip
      have h22 : ¬ acI a (nI (stN (nI k))) ≤ 0 := h22
      have h22n : ¬ acI a (nI (stN (nI k))) = 0 := fun z => h22 (by rw [z]; decide)
      rw [if_pos h22n] at hst
      refine ex_il d_TM_store_25 rfl ?_
      exact ex_iret [TW G h q f g] hG d_TM_store_27 rfl rfl (by decide) (by decide) (eg_sub.of rfl) ⟨by rw [hst], by rw [hst, if_neg h22n]⟩
  · skip
    have h2 : 2 < nI k := Int32.not_le.mp h2
    refine ex_k d_TM_store_5 ?_
    exact ex_iret [TW G h q f g] hG d_TM_store_6 rfl rfl (by decide) (by decide) (eg_sub.of rfl) ⟨by rw [stT, if_pos h2], by rw [stT, if_pos h2]; rfl⟩
