/-! THE TWIN, 8: remove, unload -/
def rmG (g : Nat → Nat → Int32) (m : Nat) : Nat → Nat × (Nat → Nat → Int32)
  | 0 => (0, g)
  | k + 1 => if (rmG g m k).2 7 k = nI m then rmG g m k else ((rmG g m k).1 + 1, addG (rmG g m k).2 (rmG g m k).1 ((rmG g m k).2 4 k) ((rmG g m k).2 5 k) ((rmG g m k).2 6 k) ((rmG g m k).2 7 k))
theorem rmG_le (g : Nat → Nat → Int32) (m : Nat) : ∀ k, (rmG g m k).1 ≤ k
  | 0 => Nat.le_refl _
  | k + 1 => by
    have := rmG_le g m k
    rw [rmG]
    split
    · omega
    · show (rmG g m k).1 + 1 ≤ k + 1
      omega
def clN (u : Nat → Int32) (m : Nat) : Nat → (Nat → Int32)
  | 0 => u
  | j + 1 => upd (clN u m j) (12 * m + j) 0
/-- the twin without a module -/
def remG (g : Nat → Nat → Int32) (n m : Nat) : Nat → Nat → Int32 := va_up (rmG (va_up g 8 (upd (g 8) m 0)) m n).2 14 (clN ((rmG (va_up g 8 (upd (g 8) m 0)) m n).2 14) m 12)
def remN (g : Nat → Nat → Int32) (n m : Nat) : Nat := (rmG (va_up g 8 (upd (g 8) m 0)) m n).1
set_option maxRecDepth 100000 in
set_option maxHeartbeats 1000000 in
theorem c_TM_remove (l : Launch) (G : eg_G) (h : Nat) (q : Nat → Nat) (f : Nat → Int32) (g : Nat → Nat → Int32) (m n : Nat) (hm : m < 12) (hn : f 3 = nI n) (hn2 : n ≤ 40) : Ct l G y_TM_remove 1 0 0 [.ref h, .int (nI m)] [TW G h q f g] (rF none [TW G h q (va_up f 3 (nI (remN g n m))) (remG g n m)]) := by
  refine Ct.of cd_TM_remove (eg_catb rfl) (Nat.le_of_ble_eq_true rfl) ?_
  intro Γ hG
  have hR := hG.rm
  show Ex G Γ mu_TM_remove 0 [some (.ref h), some (.int (nI m)), none, none] [] [TW G h q f g] 0 0
  refine ex_al d_TM_remove_0 rfl ?_
  refine tg 0 fl_TM_25 d_TM_remove_1 rfl rfl ?_
  refine ex_il d_TM_remove_4 rfl ?_
  refine ex_k d_TM_remove_5 ?_
  refine ex_eqT [.int (bI false), .int (nI m), .ref (q 8)] rfl ?_
  refine ts_8 0 d_TM_remove_6 rfl (ix_e hm) ?_
  refine ex_k d_TM_remove_7 ?_
  refine ex_is d_TM_remove_8 (Nat.le_of_ble_eq_true rfl) ?_
  refine ex_k d_TM_remove_9 ?_
  refine ex_is d_TM_remove_10 (Nat.le_of_ble_eq_true rfl) ?_
  have L : ∀ j, j ≤ n → Ex G Γ mu_TM_remove 11 [some (.ref h), some (.int (nI m)), some (.int (nI (rmG (va_up g 8 (upd (g 8) m 0)) m j).1)), some (.int (nI j))] [] [TW G h q f (rmG (va_up g 8 (upd (g 8) m 0)) m j).2] 0 0 := by
    refine eg_down n (fun j hj ih => ?_)
    have hle := rmG_le (va_up g 8 (upd (g 8) m 0)) m j
    refine ex_il d_TM_remove_11 rfl ?_
    refine ex_al d_TM_remove_12 rfl ?_
    refine tg 0 fl_TM_80 d_TM_remove_13 rfl rfl ?_
    refine ex_icmp_ge d_TM_remove_16 (fun h16 => ?_) (fun h16 => ?_)
    · skip
      have h16 := le_n (a := n) h16 hn
      have hjn : n = j := by omega
      subst hjn
      refine ex_al d_TM_remove_89 rfl ?_
      refine ex_il d_TM_remove_90 rfl ?_
      refine tp_3 0 wl_TM_80 d_TM_remove_91 rfl ?_
      refine ex_k d_TM_remove_94 ?_
      refine ex_is d_TM_remove_95 (Nat.le_of_ble_eq_true rfl) ?_
      have L2 : ∀ j, j ≤ 12 → Ex G Γ mu_TM_remove 96 [some (.ref h), some (.int (nI m)), some (.int (nI (remN g n m))), some (.int (nI j))] [] [TW G h q (va_up f 3 (nI (remN g n m))) (va_up (rmG (va_up g 8 (upd (g 8) m 0)) m n).2 14 (clN ((rmG (va_up g 8 (upd (g 8) m 0)) m n).2 14) m j))] 0 0 := by
        refine eg_down 12 (fun j hj ih => ?_)
        refine ex_il d_TM_remove_96 rfl ?_
        refine ex_k d_TM_remove_97 ?_
        refine ex_icmp_ge d_TM_remove_99 (fun h99 => ?_) (fun h99 => ?_)
        · skip
          have h99 := le_n (a := 12) h99
          have hj4 : j = 12 := by omega
          subst hj4
          exact ex_vret [TW G h q (va_up f 3 (nI (remN g n m))) (remG g n m)] hG d_TM_remove_120 rfl (by decide) (by decide) (eg_sub.of rfl) ⟨rfl, rfl⟩
        · skip
          have hlt := lt_n (a := 12) h99
          refine ex_al d_TM_remove_102 rfl ?_
          refine tg 0 fl_TM_44 d_TM_remove_103 rfl rfl ?_
          refine ex_k d_TM_remove_106 ?_
          refine ex_il d_TM_remove_108 rfl ?_
          refine ex_imul d_TM_remove_109 ?_
          refine ex_il d_TM_remove_110 rfl ?_
          refine ex_iadd d_TM_remove_111 ?_
          refine ex_k d_TM_remove_112 ?_
          refine ex_eqT [.int (bI false), .int (nI (12 * m + j)), .ref (q 14)] (by show [Value.int 0, .int (nI 12 * nI m + nI j), _] = _; rw [pk_mul, nI_add]; rfl) ?_
          refine ts_14 0 d_TM_remove_113 rfl (ix_e (j := 12 * m + j) (by omega)) ?_
          refine ex_eqS [TW G h q (va_up f 3 (nI (remN g n m))) (va_up (rmG (va_up g 8 (upd (g 8) m 0)) m n).2 14 (clN ((rmG (va_up g 8 (upd (g 8) m 0)) m n).2 14) m (j + 1)))] (by show [TW G h q _ (va_up (va_up _ 14 _) 14 _)] = _; rw [bx_uu]; rfl) ?_
          refine ex_inc d_TM_remove_114 rfl ?_
          refine ex_goto d_TM_remove_117 ?_
          exact ih hlt
      exact ex_eqS [TW G h q (va_up f 3 (nI (remN g n m))) (va_up (rmG (va_up g 8 (upd (g 8) m 0)) m n).2 14 (clN ((rmG (va_up g 8 (upd (g 8) m 0)) m n).2 14) m 0))] (by show [TW G h q (va_up f 3 (nI (remN g n m))) _] = _; rw [clN, va_up_same]) (L2 0 (Nat.zero_le _))
    · skip
      have hlt := lt_n (a := n) h16 hn
      obtain ⟨c, hc⟩ : ∃ c, (rmG (va_up g 8 (upd (g 8) m 0)) m j).1 = c := ⟨_, rfl⟩
      obtain ⟨g1, hg1⟩ : ∃ g1, (rmG (va_up g 8 (upd (g 8) m 0)) m j).2 = g1 := ⟨_, rfl⟩
      refine ex_al d_TM_remove_19 rfl ?_
      refine tg 0 fl_TM_22 d_TM_remove_20 rfl rfl ?_
      refine ex_il d_TM_remove_23 rfl ?_
      refine tl_7 0 d_TM_remove_24 rfl (ix_e (j := j) (by omega)) ?_
      refine ex_il d_TM_remove_25 rfl ?_
      refine ex_icmp_ne d_TM_remove_26 (fun h26 => ?_) (fun h26 => ?_)
      · skip
        have h26 : ¬ (rmG (va_up g 8 (upd (g 8) m 0)) m j).2 7 j = nI m := h26
        rw [hc] at hle
        refine ex_al d_TM_remove_32 rfl ?_
        refine tg 0 fl_TM_13 d_TM_remove_33 rfl rfl ?_
        refine ex_il d_TM_remove_36 rfl ?_
        refine ex_al d_TM_remove_37 rfl ?_
        refine tg 0 fl_TM_13 d_TM_remove_38 rfl rfl ?_
        refine ex_il d_TM_remove_41 rfl ?_
        refine tl_4 0 d_TM_remove_42 rfl (ix_e (j := j) (by omega)) ?_
        refine ts_4 0 d_TM_remove_43 rfl (ix_e (j := (rmG (va_up g 8 (upd (g 8) m 0)) m j).1) (by omega)) ?_
        refine ex_al d_TM_remove_44 rfl ?_
        refine tg 0 fl_TM_16 d_TM_remove_45 rfl rfl ?_
        refine ex_il d_TM_remove_48 rfl ?_
        refine ex_al d_TM_remove_49 rfl ?_
        refine tg 0 fl_TM_16 d_TM_remove_50 rfl rfl ?_
        refine ex_il d_TM_remove_53 rfl ?_
        refine tl_5 0 d_TM_remove_54 rfl (ix_e (j := j) (by omega)) ?_
        refine ts_5 0 d_TM_remove_55 rfl (ix_e (j := (rmG (va_up g 8 (upd (g 8) m 0)) m j).1) (by omega)) ?_
        refine ex_al d_TM_remove_56 rfl ?_
        refine tg 0 fl_TM_19 d_TM_remove_57 rfl rfl ?_
        refine ex_il d_TM_remove_60 rfl ?_
        refine ex_al d_TM_remove_61 rfl ?_
        refine tg 0 fl_TM_19 d_TM_remove_62 rfl rfl ?_
        refine ex_il d_TM_remove_65 rfl ?_
        refine tl_6 0 d_TM_remove_66 rfl (ix_e (j := j) (by omega)) ?_
        refine ts_6 0 d_TM_remove_67 rfl (ix_e (j := (rmG (va_up g 8 (upd (g 8) m 0)) m j).1) (by omega)) ?_
        refine ex_al d_TM_remove_68 rfl ?_
        refine tg 0 fl_TM_22 d_TM_remove_69 rfl rfl ?_
        refine ex_il d_TM_remove_72 rfl ?_
        refine ex_al d_TM_remove_73 rfl ?_
        refine tg 0 fl_TM_22 d_TM_remove_74 rfl rfl ?_
        refine ex_il d_TM_remove_77 rfl ?_
        refine tl_7 0 d_TM_remove_78 rfl (ix_e (j := j) (by omega)) ?_
        refine ts_7 0 d_TM_remove_79 rfl (ix_e (j := (rmG (va_up g 8 (upd (g 8) m 0)) m j).1) (by omega)) ?_
        refine ex_inc d_TM_remove_80 rfl ?_
        refine ex_inc d_TM_remove_83 rfl ?_
        refine ex_goto d_TM_remove_86 ?_
        exact ex_eqL [some (.ref h), some (.int (nI m)), some (.int (nI (rmG (va_up g 8 (upd (g 8) m 0)) m (j + 1)).1)), some (.int (nI (j + 1)))] (by rw [rmG, if_neg h26]; rfl) (ex_eqS [TW G h q f (rmG (va_up g 8 (upd (g 8) m 0)) m (j + 1)).2] (by rw [rmG, if_neg h26]; rfl) (ih hlt))
      · skip
        have h26 : (rmG (va_up g 8 (upd (g 8) m 0)) m j).2 7 j = nI m := h26
        refine ex_goto d_TM_remove_29 ?_
        refine ex_inc d_TM_remove_83 rfl ?_
        refine ex_goto d_TM_remove_86 ?_
        exact ex_eqL [some (.ref h), some (.int (nI m)), some (.int (nI (rmG (va_up g 8 (upd (g 8) m 0)) m (j + 1)).1)), some (.int (nI (j + 1)))] (by rw [rmG, if_pos h26]; rfl) (ex_eqS [TW G h q f (rmG (va_up g 8 (upd (g 8) m 0)) m (j + 1)).2] (by rw [rmG, if_pos h26]) (ih hlt))
  exact L 0 (Nat.zero_le _)
def ulE (F : Nat → Int32) (g : Nat → Nat → Int32) (n m : Nat) : (Nat → Int32) × (Nat → Nat → Int32) := if F 17 = 0 then (va_up (va_up F 0 0) 3 (nI (remN g n m)), remG g n m) else (va_up F 0 2, g)
def ulM (f : Nat → Int32) (g : Nat → Nat → Int32) (m : Nat) (fu : Nat) : (Nat → Int32) × (Nat → Nat → Int32) := if ndB g m = true then (va_up (va_up (frF (va_up f 0 0)) 17 11) 18 (-1), g) else if g 13 m = -1 then (frF (va_up f 0 0), g) else (runX (frF (va_up f 0 0)) (runR f g (g 10 m + g 13 m) 0 0 fu), gMR g (runR f g (g 10 m + g 13 m) 0 0 fu).2.2.2.1 (runR f g (g 10 m + g 13 m) 0 0 fu).2.2.2.2.1)
def ulR (f : Nat → Int32) (g : Nat → Nat → Int32) (n : Nat) (x fu : Int32) : (Nat → Int32) × (Nat → Nat → Int32) := match tmod g x with
  | none => (va_up f 0 1, g)
  | some m => if fuB fu = true then ulE (ulM f g m fu.toNatClampNeg).1 (ulM f g m fu.toNatClampNeg).2 n m else (va_up f 0 1, g)
theorem runX_17 (f : Nat → Int32) (r : mR) (h : f 17 = 0) : runX f r 17 = r.1 := by
  unfold runX
  by_cases z : r.1 = 0
  · rw [if_pos z, runF_17, z, h]
  · rw [if_neg z]; rfl
theorem runX_3 (f : Nat → Int32) (r : mR) : runX f r 3 = f 3 := by
  unfold runX runF runf
  by_cases z : r.1 = 0
  · rw [if_pos z, if_pos z]; rfl
  · rw [if_neg z, if_neg z]; rfl
set_option maxRecDepth 100000 in
set_option maxHeartbeats 1000000 in
theorem c_TM_unload (l : Launch) (G : eg_G) (h : Nat) (q : Nat → Nat) (f : Nat → Int32) (g : Nat → Nat → Int32) (x fu : Int32) (n : Nat) (hn : f 3 = nI n) (hn2 : n ≤ 40) (hse : f 2 = 0 ∨ f 2 = 1) : Ct l G y_TM_unload 5 0 0 [.ref h, .int x, .int fu] [TW G h q f g] (rF none [TW G h q (ulR f g n x fu).1 (ulR f g n x fu).2]) := by
  refine Ct.of cd_TM_unload (eg_catb rfl) (Nat.le_of_ble_eq_true rfl) ?_
  intro Γ hG
  have hR := hG.rm
  show Ex G Γ mu_TM_unload 0 [some (.ref h), some (.int x), some (.int fu), none] [] [TW G h q f g] 0 0
  refine ex_al d_TM_unload_0 rfl ?_
  refine ex_il d_TM_unload_1 rfl ?_
  refine ex_cF [0] hR (c_TM_numberOf l G h q f g x) (eg_invV 0 d_TM_unload_2 cd_TM_numberOf cx_TM_161 rfl rfl List.mem_cons_self rfl rfl) cd_TM_numberOf rfl rfl (Nat.le_of_ble_eq_true rfl) (by decide) (by decide) (by decide) (by decide) rfl ?_
  obtain ⟨o, ho⟩ : ∃ o, tmod g x = o := ⟨_, rfl⟩
  rw [ho]
  refine ex_is d_TM_unload_5 (Nat.le_of_ble_eq_true rfl) ?_
  have hbad : (o = none ∨ fuB fu = false) → Ex G Γ mu_TM_unload 22 [some (.ref h), some (.int x), some (.int fu), some (.int (oI o))] [.ref h] [TW G h q f g] 0 0 := by
    intro hb
    refine ex_k d_TM_unload_22 ?_
    refine ex_goto d_TM_unload_23 ?_
    refine tp_0 0 wl_TM_57 d_TM_unload_27 rfl ?_
    refine ex_al d_TM_unload_30 rfl ?_
    refine tg 0 fl_TM_57 d_TM_unload_31 rfl rfl ?_
    refine ex_if_le d_TM_unload_34 (fun z => absurd z (by show ¬ (1 : Int32) ≤ 0; decide)) (fun _ => ?_)
    have e : ulR f g n x fu = (va_up f 0 1, g) := by
      unfold ulR
      rw [ho]
      rcases hb with z | z
      · rw [z]
      · cases o with
        | none => rfl
        | some k => exact if_neg (by rw [z]; decide)
    exact ex_vret [TW G h q (va_up f 0 1) g] hG d_TM_unload_37 rfl (by decide) (by decide) (eg_sub.of rfl) ⟨rfl, by rw [e]⟩
  refine ex_al d_TM_unload_6 rfl ?_
  refine ex_il d_TM_unload_7 rfl ?_
  refine ex_if_lt d_TM_unload_8 (fun h8 => ?_) (fun h8 => ?_)
  · skip
    exact hbad (Or.inl (by
      cases o with
      | none => rfl
      | some s => exact absurd h8 (nI_pos (by have := (tfind_lt ho).1; omega))))
  · skip
    obtain ⟨m, rfl⟩ : ∃ s, o = some s := by
      cases o with
      | none => exact absurd (by decide) h8
      | some s => exact ⟨s, rfl⟩
    have hm := (tfind_lt ho).1
    refine ex_il d_TM_unload_11 rfl ?_
    refine ex_if_lt d_TM_unload_12 (fun h12 => ?_) (fun h12 => ?_)
    · skip
      exact hbad (Or.inr (by unfold fuB; rw [decide_eq_false (Int32.not_le.mpr h12)]; rfl))
    · skip
      skip
      refine ex_il d_TM_unload_15 rfl ?_
      refine ex_k d_TM_unload_16 ?_
      refine ex_icmp_le d_TM_unload_19 (fun h19 => ?_) (fun h19 => ?_)
      · skip
        have hfu : fuB fu = true := by unfold fuB; rw [decide_eq_true (Int32.not_lt.mp h12), decide_eq_true h19]; rfl
        obtain ⟨j, hj, rfl⟩ := fuB_of hfu
        clear hbad
        have hul : ulR f g n x (nI j) = ulE (ulM f g m j).1 (ulM f g m j).2 n m := by
          unfold ulR
          rw [ho]
          show (if fuB (nI j) = true then _ else _) = _
          rw [if_pos hfu, nI_clamp (by omega)]
        refine ex_k d_TM_unload_26 ?_
        refine tp_0 0 wl_TM_57 d_TM_unload_27 rfl ?_
        refine ex_al d_TM_unload_30 rfl ?_
        refine tg 0 fl_TM_57 d_TM_unload_31 rfl rfl ?_
        refine ex_if_le d_TM_unload_34 (fun h34 => ?_) (fun h34 => absurd (show (0 : Int32) ≤ 0 by decide) h34)
        refine ex_al d_TM_unload_38 rfl ?_
        have J114 : ∀ (F : Nat → Int32) (g' : Nat → Nat → Int32), F 3 = nI n → 0 ≤ F 17 → ulM f g m j = (F, g') → Ex G Γ mu_TM_unload 114 [some (.ref h), some (.int x), some (.int (nI j)), some (.int (nI m))] [] [TW G h q F g'] 0 0 := by
          intro F g' hF3 hF17 hFM
          rw [hFM] at hul
          have J127 : ∀ z : Int32, z = (if F 17 = 0 then 0 else 2) → Ex G Γ mu_TM_unload 127 [some (.ref h), some (.int x), some (.int (nI j)), some (.int (nI m))] [.int z, .ref h] [TW G h q F g'] 0 0 := by
            intro z hz
            subst hz
            refine tp_0 0 wl_TM_57 d_TM_unload_127 rfl ?_
            refine ex_al d_TM_unload_130 rfl ?_
            refine tg 0 fl_TM_136 d_TM_unload_131 rfl rfl ?_
            refine ex_if_ne d_TM_unload_134 (fun z => ?_) (fun z => ?_)
            · have z : ¬ F 17 = 0 := z
              exact ex_vret [TW G h q (va_up F 0 2) g'] hG d_TM_unload_142 rfl (by decide) (by decide) (by rw [if_neg z]; exact eg_sub.of rfl) ⟨rfl, by rw [hul, ulE, if_neg z]⟩
            · have z : F 17 = 0 := z
              refine ex_al d_TM_unload_137 rfl ?_
              refine ex_il d_TM_unload_138 rfl ?_
              refine ex_cV [0] hR (c_TM_remove l G h q (va_up F 0 (if F 17 = 0 then 0 else 2)) g' m n hm hF3 hn2) (eg_invV 0 d_TM_unload_139 cd_TM_remove cx_TM_184 rfl rfl List.mem_cons_self rfl rfl) cd_TM_remove rfl rfl (Nat.le_of_ble_eq_true rfl) (by decide) (by decide) (by decide) (by decide) rfl ?_
              exact ex_vret [TW G h q (va_up (va_up F 0 (if F 17 = 0 then 0 else 2)) 3 (nI (remN g' n m))) (remG g' n m)] hG d_TM_unload_142 rfl (by decide) (by decide) (eg_sub.of rfl) ⟨rfl, by rw [hul, ulE, if_pos z, if_pos z]⟩
          refine ex_al d_TM_unload_114 rfl ?_
          refine ex_al d_TM_unload_115 rfl ?_
          refine tg 0 fl_TM_136 d_TM_unload_116 rfl rfl ?_
          refine ex_if_le d_TM_unload_119 (fun z => ?_) (fun z => ?_)
          · have z0 : F 17 = 0 := i_cast z hF17
            refine ex_k d_TM_unload_126 ?_
            exact J127 _ (by rw [if_pos z0])
          · have z0 : ¬ F 17 = 0 := fun y => z (show F 17 ≤ 0 by rw [y]; decide)
            refine ex_k d_TM_unload_122 ?_
            refine ex_goto d_TM_unload_123 ?_
            exact J127 _ (by rw [if_neg z0])
        refine ex_cV [0] hR (c_TM_fresh l G h q (va_up f 0 0) g) (eg_invV 0 d_TM_unload_39 cd_TM_fresh cx_TM_155 rfl rfl List.mem_cons_self rfl rfl) cd_TM_fresh rfl rfl (Nat.le_of_ble_eq_true rfl) (by decide) (by decide) (by decide) (by decide) rfl ?_
        refine ex_al d_TM_unload_42 rfl ?_
        refine ex_il d_TM_unload_43 rfl ?_
        refine ex_cF [0] hR (c_TM_isNeeded l G h q (frF (va_up f 0 0)) g m hm) (eg_invV 0 d_TM_unload_44 cd_TM_isNeeded cx_TM_188 rfl rfl List.mem_cons_self rfl rfl) cd_TM_isNeeded rfl rfl (Nat.le_of_ble_eq_true rfl) (by decide) (by decide) (by decide) (by decide) rfl ?_
        refine ex_if_eq d_TM_unload_47 (fun h47 => ?_) (fun h47 => ?_)
        · skip
          have h47 := bI_0.mp h47
          refine ex_al d_TM_unload_61 rfl ?_
          refine tg 0 fl_TM_41 d_TM_unload_62 rfl rfl ?_
          refine ex_il d_TM_unload_65 rfl ?_
          refine tl_13 0 d_TM_unload_66 rfl (ix_e hm) ?_
          refine ex_k d_TM_unload_67 ?_
          refine ex_icmp_eq d_TM_unload_68 (fun h68 => ?_) (fun h68 => ?_)
          · skip
            have h68 : g 13 m = -1 := h68
            exact J114 (frF (va_up f 0 0)) g hn (show (0 : Int32) ≤ 0 by decide) (by rw [ulM, if_neg (by rw [h47]; decide), if_pos h68])
          · skip
            have h68 : ¬ g 13 m = -1 := h68
            have hrn := c_TM_runs l G h q (frF (va_up f 0 0)) g (g 10 m + g 13 m) 0 0 j hj hse rfl rfl
            rw [gdB_up (f := f) (g := g) (f' := frF (va_up f 0 0)) (g' := g) rfl rfl rfl rfl] at hrn
            obtain ⟨r, hr⟩ : ∃ r, runR f g (g 10 m + g 13 m) 0 0 j = r := ⟨_, rfl⟩
            rw [show mrun (gdB f g) j 0 (g 1) (rgS (g 22) 0 0) (g 10 m + g 13 m) = r from hr] at hrn
            have hkd := mrun_kind (gdB f g) j 0 (g 1) (rgS (g 22) 0 0) (g 10 m + g 13 m)
            rw [show mrun (gdB f g) j 0 (g 1) (rgS (g 22) 0 0) (g 10 m + g 13 m) = r from hr] at hkd
            have h17 : 0 ≤ runX (frF (va_up f 0 0)) r 17 := by
              rw [runX_17 _ _ rfl]
              rcases hkd with y | y | y <;> rw [y.1] <;> decide
            have J3 := J114 (runX (frF (va_up f 0 0)) r) (gMR g r.2.2.2.1 r.2.2.2.2.1) (by rw [runX_3]; exact hn) h17 (by rw [ulM, if_neg (by rw [h47]; decide), if_neg h68, hr])
            refine ex_al d_TM_unload_71 rfl ?_
            refine ex_al d_TM_unload_72 rfl ?_
            refine tg 0 fl_TM_32 d_TM_unload_73 rfl rfl ?_
            refine ex_il d_TM_unload_76 rfl ?_
            refine tl_10 0 d_TM_unload_77 rfl (ix_e hm) ?_
            refine ex_al d_TM_unload_78 rfl ?_
            refine tg 0 fl_TM_41 d_TM_unload_79 rfl rfl ?_
            refine ex_il d_TM_unload_82 rfl ?_
            refine tl_13 0 d_TM_unload_83 rfl (ix_e hm) ?_
            refine ex_iadd d_TM_unload_84 ?_
            refine ex_k d_TM_unload_85 ?_
            refine ex_k d_TM_unload_86 ?_
            refine ex_il d_TM_unload_87 rfl ?_
            refine ex_cF [0] hR (hrn) (eg_invV 0 d_TM_unload_88 cd_TM_runs cx_TM_180 rfl rfl List.mem_cons_self rfl rfl) cd_TM_runs rfl rfl (Nat.le_of_ble_eq_true rfl) (by decide) (by decide) (by decide) (by decide) rfl ?_
            refine ex_if_ne d_TM_unload_91 (fun h91 => ?_) (fun h91 => ?_)
            · skip
              have hz0 : r.1 = 0 := by simpa using fun y => h91 (bI_0.mpr (decide_eq_false y))
              exact ex_eqS _ (by show [TW G h q (runF (frF (va_up f 0 0)) r) _] = _; rw [← show runX (frF (va_up f 0 0)) r = runF (frF (va_up f 0 0)) r by rw [runX, if_pos hz0]]) J3
            · skip
              have hn0 : ¬ r.1 = 0 := by simpa using bI_0.mp h91
              refine ex_al d_TM_unload_94 rfl ?_
              refine ex_al d_TM_unload_95 rfl ?_
              refine tg 0 fl_TM_146 d_TM_unload_96 rfl rfl ?_
              refine ex_if_le d_TM_unload_99 (fun h99 => ?_) (fun h99 => ?_)
              · skip
                have hk9 : r.1 = 9 := by
                  have e : (runF (frF (va_up f 0 0)) r) 19 = r.2.1 := runF_19 _ r
                  rw [e] at h99
                  rcases hkd with z | z | z
                  · exact absurd z.1 hn0
                  · exact z.1
                  · exact absurd z.2 (Int32.not_lt.mpr h99)
                refine ex_k d_TM_unload_107 ?_
                refine ex_k d_TM_unload_109 ?_
                refine ex_cF [0] hR (c_TM_wrong l G h q (runF (frF (va_up f 0 0)) r) (gMR g r.2.2.2.1 r.2.2.2.2.1) 9 (-1)) (eg_invV 0 d_TM_unload_110 cd_TM_wrong cx_TM_139 rfl rfl List.mem_cons_self rfl rfl) cd_TM_wrong rfl rfl (Nat.le_of_ble_eq_true rfl) (by decide) (by decide) (by decide) (by decide) rfl ?_
                refine ex_pop d_TM_unload_113 rfl ?_
                exact ex_eqS _ (by show [TW G h q (va_up (va_up (runF (frF (va_up f 0 0)) r) 17 _) 18 _) _] = _; rw [show runX (frF (va_up f 0 0)) r = va_up (va_up (runF (frF (va_up f 0 0)) r) 17 r.1) 18 (-1) by rw [runX, if_neg hn0], hk9]) J3
              · skip
                have hk8 : r.1 = 8 := by
                  have e : (runF (frF (va_up f 0 0)) r) 19 = r.2.1 := runF_19 _ r
                  rw [e] at h99
                  rcases hkd with z | z | z
                  · exact absurd z.1 hn0
                  · exact absurd (by rw [z.2]; decide) h99
                  · exact z.1
                refine ex_k d_TM_unload_102 ?_
                refine ex_goto d_TM_unload_104 ?_
                refine ex_k d_TM_unload_109 ?_
                refine ex_cF [0] hR (c_TM_wrong l G h q (runF (frF (va_up f 0 0)) r) (gMR g r.2.2.2.1 r.2.2.2.2.1) 8 (-1)) (eg_invV 0 d_TM_unload_110 cd_TM_wrong cx_TM_139 rfl rfl List.mem_cons_self rfl rfl) cd_TM_wrong rfl rfl (Nat.le_of_ble_eq_true rfl) (by decide) (by decide) (by decide) (by decide) rfl ?_
                refine ex_pop d_TM_unload_113 rfl ?_
                exact ex_eqS _ (by show [TW G h q (va_up (va_up (runF (frF (va_up f 0 0)) r) 17 _) 18 _) _] = _; rw [show runX (frF (va_up f 0 0)) r = va_up (va_up (runF (frF (va_up f 0 0)) r) 17 r.1) 18 (-1) by rw [runX, if_neg hn0], hk8]) J3
        · skip
          have h47 : ndB g m = true := by cases hb : ndB g m; exact absurd (bI_0.mpr hb) h47; rfl
          refine ex_al d_TM_unload_50 rfl ?_
          refine ex_k d_TM_unload_51 ?_
          refine ex_k d_TM_unload_53 ?_
          refine ex_cF [0] hR (c_TM_wrong l G h q (frF (va_up f 0 0)) g 11 (-1)) (eg_invV 0 d_TM_unload_54 cd_TM_wrong cx_TM_139 rfl rfl List.mem_cons_self rfl rfl) cd_TM_wrong rfl rfl (Nat.le_of_ble_eq_true rfl) (by decide) (by decide) (by decide) (by decide) rfl ?_
          refine ex_pop d_TM_unload_57 rfl ?_
          refine ex_goto d_TM_unload_58 ?_
          exact J114 (va_up (va_up (frF (va_up f 0 0)) 17 11) 18 (-1)) g hn (show (0 : Int32) ≤ 11 by decide) (by rw [ulM, if_pos h47])
      · skip
        exact hbad (Or.inr (by unfold fuB; rw [decide_eq_false (p := fu ≤ 2000) h19, Bool.and_false]))
