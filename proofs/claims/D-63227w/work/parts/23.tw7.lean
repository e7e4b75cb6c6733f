/-! THE TWIN, 7: counts -/
def rcnt (p : Nat → Bool) : Nat → Nat
  | 0 => 0
  | n + 1 => rcnt p n + (if p n = true then 1 else 0)
theorem rcnt_le (p : Nat → Bool) : ∀ n, rcnt p n ≤ n
  | 0 => Nat.le_refl _
  | n + 1 => by have := rcnt_le p n; simp only [rcnt]; split <;> omega
theorem rcnt_I (p : Nat → Bool) (c j : Nat) : nI (c + rcnt p j) + bI (p j) = nI (c + rcnt p (j + 1)) := by
  rw [rcnt, ← Nat.add_assoc]
  cases p j
  · show nI _ + nI 0 = _
    rw [nI_add]
    rfl
  · show nI _ + nI 1 = _
    rw [nI_add]
    rfl
theorem rcnt_I0 (p : Nat → Bool) (j : Nat) : nI (rcnt p j) + bI (p j) = nI (rcnt p (j + 1)) := by
  have := rcnt_I p 0 j
  rwa [Nat.zero_add, Nat.zero_add] at this
def rmx (p : Nat → Bool) : Nat → Nat
  | 0 => 0
  | n + 1 => if rmx p n < rwC p (n + 1) then rwC p (n + 1) else rmx p n
theorem rmx_le (p : Nat → Bool) : ∀ n, rmx p n ≤ n
  | 0 => Nat.le_refl _
  | n + 1 => by have := rmx_le p n; have := rwC_le p (n + 1); simp only [rmx]; split <;> omega
def mdP (g : Nat → Nat → Int32) (k : Nat) : Bool := decide (¬ g 8 k = 0)
def cnI (f : Nat → Int32) (g : Nat → Nat → Int32) (w : Int32) : Int32 := if w = 0 then nI (rcnt (mdP g) 12) else if w = 1 then f 3 else if w = 2 then nI (rcnt (rowP g) 208) else if w = 3 then nI (rmx (rowP g) 208) else if w = 4 then f 15 else -1
/-- the module of lowest base above last, among the first so many -/
def nxM (g : Nat → Nat → Int32) (last : Int32) : Nat → Option Nat
  | 0 => none
  | m + 1 => if (¬ g 8 m = 0) ∧ last < g 10 m ∧ (∀ b, nxM g last m = some b → g 10 m < g 10 b) then some m else nxM g last m
theorem nxM_lt {g : Nat → Nat → Int32} {last : Int32} : ∀ {n b : Nat}, nxM g last n = some b → b < n
  | 0, _, h => by cases h
  | n + 1, b, h => by
    rw [nxM] at h
    split at h
    · cases h; omega
    · have := nxM_lt h; omega
def tat (g : Nat → Nat → Int32) : Nat → Int32 → Int32
  | 0, last => match nxM g last 12 with
    | none => -1
    | some b => g 9 b
  | k + 1, last => match nxM g last 12 with
    | none => -1
    | some b => tat g k (g 10 b)
def atI (g : Nat → Nat → Int32) (w : Int32) : Int32 := if w < 0 then -1 else tat g w.toNatClampNeg 0
theorem tat_none {g : Nat → Nat → Int32} {last : Int32} (h : nxM g last 12 = none) (k : Nat) : tat g k last = -1 := by
  cases k with
  | zero => rw [tat, h]
  | succ k => rw [tat, h]
theorem tat_0 {g : Nat → Nat → Int32} {last : Int32} {b : Nat} (h : nxM g last 12 = some b) : tat g 0 last = g 9 b := by rw [tat, h]
theorem tat_s {g : Nat → Nat → Int32} {last : Int32} {b : Nat} (h : nxM g last 12 = some b) (k : Nat) : tat g (k + 1) last = tat g k (g 10 b) := by rw [tat, h]
set_option maxRecDepth 100000 in
theorem c_TM_at (l : Launch) (G : eg_G) (h : Nat) (q : Nat → Nat) (f : Nat → Int32) (g : Nat → Nat → Int32) (w : Int32) : Ct l G y_TM_at 1 0 0 [.ref h, .int w] [TW G h q f g] (rF (some (.int (atI g w))) [TW G h q (va_up f 0 0) g]) := by
  refine Ct.of cd_TM_at (eg_catb rfl) (Nat.le_of_ble_eq_true rfl) ?_
  intro Γ hG
  have hR := hG.rm
  show Ex G Γ mu_TM_at 0 [some (.ref h), some (.int w), none, none, none, none] [] [TW G h q f g] 0 0
  refine ex_al d_TM_at_0 rfl ?_
  refine ex_k d_TM_at_1 ?_
  refine tp_0 0 wl_TM_57 d_TM_at_2 rfl ?_
  refine ex_il d_TM_at_5 rfl ?_
  refine ex_if_ge d_TM_at_6 (fun h6 => ?_) (fun h6 => ?_)
  · skip
    obtain ⟨k, hk, rfl⟩ := nI_of (x := w) (Int32.not_lt.mpr h6)
    have hat : atI g (nI k) = tat g k 0 := by rw [atI, if_neg (Int32.not_lt.mpr h6), nI_clamp hk]
    refine ex_k d_TM_at_11 ?_
    refine ex_is d_TM_at_12 (Nat.le_of_ble_eq_true rfl) ?_
    refine ex_k d_TM_at_13 ?_
    refine ex_is d_TM_at_14 (Nat.le_of_ble_eq_true rfl) ?_
    have L : ∀ j, j ≤ k → ∀ last : Int32, tat g (k - j) last = tat g k 0 → Ex G Γ mu_TM_at 15 [some (.ref h), some (.int (nI k)), some (.int last), some (.int (nI j)), none, none] [] [TW G h q (va_up f 0 0) g] 0 0 := by
      refine eg_down k (fun j hj ih last hl => ?_)
      refine ex_il d_TM_at_15 rfl ?_
      refine ex_il d_TM_at_16 rfl ?_
      refine ex_icmp_gt d_TM_at_17 (fun h17 => absurd h17 (Int32.not_lt.mpr ((nI_leI (by omega) (by omega)).mpr hj))) (fun h17 => ?_)
      refine ex_k d_TM_at_20 ?_
      refine ex_is d_TM_at_21 (Nat.le_of_ble_eq_true rfl) ?_
      refine ex_k d_TM_at_23 ?_
      refine ex_is d_TM_at_24 (Nat.le_of_ble_eq_true rfl) ?_
      have L2 : ∀ m, m ≤ 12 → Ex G Γ mu_TM_at 26 [some (.ref h), some (.int (nI k)), some (.int last), some (.int (nI j)), some (.int (oI (nxM g last m))), some (.int (nI m))] [] [TW G h q (va_up f 0 0) g] 0 0 := by
        refine eg_down 12 (fun m hm ih2 => ?_)
        refine ex_il d_TM_at_26 rfl ?_
        refine ex_k d_TM_at_28 ?_
        refine ex_icmp_ge d_TM_at_30 (fun h30 => ?_) (fun h30 => ?_)
        · skip
          have h30 := le_n (a := 12) h30
          have hm12 : m = 12 := by omega
          subst hm12
          refine ex_il d_TM_at_86 rfl ?_
          refine ex_if_ge d_TM_at_88 (fun h88 => ?_) (fun h88 => ?_)
          · skip
            obtain ⟨b, hnx⟩ : ∃ b, nxM g last 12 = some b := by
              cases hc : nxM g last 12 with
              | none => rw [hc] at h88; exact absurd h88 (by decide)
              | some b => exact ⟨b, rfl⟩
            have hbl := nxM_lt hnx
            refine ex_al d_TM_at_93 rfl ?_
            refine tg 0 fl_TM_32 d_TM_at_94 rfl rfl ?_
            refine ex_il d_TM_at_97 rfl ?_
            refine tl_10 0 d_TM_at_99 rfl (ix_e (j := b) (by omega) (by rw [hnx]; rfl)) ?_
            refine ex_is d_TM_at_100 (Nat.le_of_ble_eq_true rfl) ?_
            refine ex_il d_TM_at_101 rfl ?_
            refine ex_il d_TM_at_102 rfl ?_
            refine ex_icmp_ne d_TM_at_103 (fun h103 => ?_) (fun h103 => ?_)
            · skip
              have hlt : j < k := by
                have : ¬ j = k := fun z => h103 (by rw [z])
                omega
              refine ex_inc d_TM_at_114 rfl ?_
              refine ex_goto d_TM_at_117 ?_
              refine ex_forget [true, true, true, true, false, false] ?_
              exact ih hlt _ (by rw [← hl, show k - j = (k - (j + 1)) + 1 by omega, tat_s hnx])
            · skip
              have hjk : j = k := (nI_eq (by omega) (by omega)).mp h103
              refine ex_al d_TM_at_106 rfl ?_
              refine tg 0 fl_TM_29 d_TM_at_107 rfl rfl ?_
              refine ex_il d_TM_at_110 rfl ?_
              refine tl_9 0 d_TM_at_112 rfl (ix_e (j := b) (by omega) (by rw [hnx]; rfl)) ?_
              exact ex_iret [TW G h q (va_up f 0 0) g] hG d_TM_at_113 rfl rfl (by decide) (by decide) (eg_sub.of rfl) ⟨by rw [hat, ← hl, hjk, Nat.sub_self, tat_0 hnx], rfl⟩
          · skip
            have hnx : nxM g last 12 = none := by
              cases hc : nxM g last 12 with
              | none => rfl
              | some b => rw [hc] at h88; exact absurd (nI_pos' (by have := nxM_lt hc; omega)) h88
            refine ex_k d_TM_at_91 ?_
            exact ex_iret [TW G h q (va_up f 0 0) g] hG d_TM_at_92 rfl rfl (by decide) (by decide) (eg_sub.of rfl) ⟨by rw [hat, ← hl, tat_none hnx], rfl⟩
        · skip
          have hm2 := lt_n (a := 12) h30
          have J : ∀ z : Int32, z = oI (nxM g last (m + 1)) → Ex G Γ mu_TM_at 80 [some (.ref h), some (.int (nI k)), some (.int last), some (.int (nI j)), some (.int z), some (.int (nI m))] [] [TW G h q (va_up f 0 0) g] 0 0 := by
            intro z hz
            subst hz
            refine ex_inc d_TM_at_80 rfl ?_
            refine ex_goto d_TM_at_83 ?_
            exact ih2 hm2
          refine ex_al d_TM_at_33 rfl ?_
          refine tg 0 fl_TM_25 d_TM_at_34 rfl rfl ?_
          refine ex_il d_TM_at_37 rfl ?_
          refine tl_8 0 d_TM_at_39 rfl (ix_e hm2) ?_
          refine ex_if_eq d_TM_at_40 (fun h40 => ?_) (fun h40 => ?_)
          · skip
            have h40 : g 8 m = 0 := h40
            exact J _ (by rw [nxM, if_neg (fun z => z.1 h40)])
          · skip
            have h40 : ¬ g 8 m = 0 := h40
            refine ex_al d_TM_at_43 rfl ?_
            refine tg 0 fl_TM_32 d_TM_at_44 rfl rfl ?_
            refine ex_il d_TM_at_47 rfl ?_
            refine tl_10 0 d_TM_at_49 rfl (ix_e hm2) ?_
            refine ex_il d_TM_at_50 rfl ?_
            refine ex_icmp_le d_TM_at_51 (fun h51 => ?_) (fun h51 => ?_)
            · skip
              have h51 : g 10 m ≤ last := h51
              exact J _ (by rw [nxM, if_neg (fun z => absurd z.2.1 (Int32.not_lt.mpr h51))])
            · skip
              have h51 : last < g 10 m := Int32.not_le.mp h51
              refine ex_il d_TM_at_54 rfl ?_
              refine ex_if_lt d_TM_at_56 (fun h56 => ?_) (fun h56 => ?_)
              · skip
                have hb : nxM g last m = none := by
                  cases hc : nxM g last m with
                  | none => rfl
                  | some b => rw [hc] at h56; exact absurd h56 (nI_pos (by have := nxM_lt hc; omega))
                refine ex_il d_TM_at_76 rfl ?_
                refine ex_is d_TM_at_78 (Nat.le_of_ble_eq_true rfl) ?_
                exact J _ (by rw [nxM, if_pos ⟨h40, h51, fun c hc => by rw [hb] at hc; cases hc⟩]; rfl)
              · skip
                obtain ⟨b, hb⟩ : ∃ b, nxM g last m = some b := by
                  cases hc : nxM g last m with
                  | none => rw [hc] at h56; exact absurd (by decide) h56
                  | some b => exact ⟨b, rfl⟩
                have hbl := nxM_lt hb
                refine ex_al d_TM_at_59 rfl ?_
                refine tg 0 fl_TM_32 d_TM_at_60 rfl rfl ?_
                refine ex_il d_TM_at_63 rfl ?_
                refine tl_10 0 d_TM_at_65 rfl (ix_e hm2) ?_
                refine ex_al d_TM_at_66 rfl ?_
                refine tg 0 fl_TM_32 d_TM_at_67 rfl rfl ?_
                refine ex_il d_TM_at_70 rfl ?_
                refine tl_10 0 d_TM_at_72 rfl (ix_e (j := b) (by omega) (by rw [hb]; rfl)) ?_
                refine ex_icmp_ge d_TM_at_73 (fun h73 => ?_) (fun h73 => ?_)
                · skip
                  have h73 : g 10 b ≤ g 10 m := h73
                  exact J _ (by rw [nxM, if_neg (fun z => absurd (z.2.2 b hb) (Int32.not_lt.mpr h73))])
                · skip
                  have h73 : g 10 m < g 10 b := Int32.not_le.mp h73
                  refine ex_il d_TM_at_76 rfl ?_
                  refine ex_is d_TM_at_78 (Nat.le_of_ble_eq_true rfl) ?_
                  exact J _ (by rw [nxM, if_pos ⟨h40, h51, fun c hc => by rw [hb] at hc; cases hc; exact h73⟩]; rfl)
      exact L2 0 (Nat.zero_le _)
    exact L 0 (Nat.zero_le _) 0 rfl
  · skip
    have h6 : w < 0 := Int32.not_le.mp h6
    refine ex_k d_TM_at_9 ?_
    exact ex_iret [TW G h q (va_up f 0 0) g] hG d_TM_at_10 rfl rfl (by decide) (by decide) (eg_sub.of rfl) ⟨by rw [atI, if_pos h6], rfl⟩
set_option maxRecDepth 100000 in
theorem c_TM_count (l : Launch) (G : eg_G) (h : Nat) (q : Nat → Nat) (f : Nat → Int32) (g : Nat → Nat → Int32) (w : Int32) : Ct l G y_TM_count 2 0 0 [.ref h, .int w] [TW G h q f g] (rF (some (.int (cnI f g w))) [TW G h q (va_up f 0 0) g]) := by
  refine Ct.of cd_TM_count (eg_catb rfl) (Nat.le_of_ble_eq_true rfl) ?_
  intro Γ hG
  have hR := hG.rm
  show Ex G Γ mu_TM_count 0 [some (.ref h), some (.int w), none, none, none, none, none, none] [] [TW G h q f g] 0 0
  refine ex_al d_TM_count_0 rfl ?_
  refine ex_k d_TM_count_1 ?_
  refine tp_0 0 wl_TM_57 d_TM_count_2 rfl ?_
  refine ex_k d_TM_count_5 ?_
  refine ex_is d_TM_count_6 (Nat.le_of_ble_eq_true rfl) ?_
  refine ex_k d_TM_count_7 ?_
  refine ex_is d_TM_count_8 (Nat.le_of_ble_eq_true rfl) ?_
  refine ex_k d_TM_count_9 ?_
  refine ex_is d_TM_count_10 (Nat.le_of_ble_eq_true rfl) ?_
  refine ex_k d_TM_count_12 ?_
  refine ex_is d_TM_count_13 (Nat.le_of_ble_eq_true rfl) ?_
  refine ex_k d_TM_count_15 ?_
  refine ex_is d_TM_count_16 (Nat.le_of_ble_eq_true rfl) ?_
  have L : ∀ j, j ≤ 12 → Ex G Γ mu_TM_count 18 [some (.ref h), some (.int w), some (.int (nI (rcnt (mdP g) j))), some (.int (nI 0)), some (.int (nI 0)), some (.int (nI 0)), some (.int (nI j)), none] [] [TW G h q (va_up f 0 0) g] 0 0 := by
    refine eg_down 12 (fun j hj ih => ?_)
    refine ex_il d_TM_count_18 rfl ?_
    refine ex_k d_TM_count_20 ?_
    refine ex_icmp_ge d_TM_count_22 (fun h22 => ?_) (fun h22 => ?_)
    · skip
      have h22 := le_n (a := 12) h22
      have hj4 : j = 12 := by omega
      subst hj4
      refine ex_k d_TM_count_49 ?_
      refine ex_is d_TM_count_50 (Nat.le_of_ble_eq_true rfl) ?_
      have L3 : ∀ j, j ≤ 208 → Ex G Γ mu_TM_count 52 [some (.ref h), some (.int w), some (.int (nI (rcnt (mdP g) 12))), some (.int (nI (rcnt (rowP g) j))), some (.int (nI (rwC (rowP g) j))), some (.int (nI (rmx (rowP g) j))), some (.int (nI j)), none] [] [TW G h q (va_up f 0 0) g] 0 0 := by
        refine eg_down 208 (fun j hj ih3 => ?_)
        refine ex_il d_TM_count_52 rfl ?_
        refine ex_k d_TM_count_54 ?_
        refine ex_icmp_ge d_TM_count_57 (fun h57 => ?_) (fun h57 => ?_)
        · skip
          have h57 := le_n (a := 208) h57
          have hj5 : j = 208 := by omega
          subst hj5
          refine ex_il d_TM_count_118 rfl ?_
          by_cases e119_0 : w = 0
          · skip
            refine ex_eqT (.int 0 :: _) (by rw [e119_0]) ?_
            refine ex_tabIn (tgt := 152) d_TM_count_119 (by decide) (by decide) (by rfl) (by decide) ?_
            refine ex_il d_TM_count_152 rfl ?_
            exact ex_iret [TW G h q (va_up f 0 0) g] hG d_TM_count_153 rfl rfl (by decide) (by decide) (eg_sub.of rfl) ⟨by rw [e119_0]; rfl, rfl⟩
          by_cases e119_1 : w = 1
          · skip
            refine ex_eqT (.int 1 :: _) (by rw [e119_1]) ?_
            refine ex_tabIn (tgt := 154) d_TM_count_119 (by decide) (by decide) (by rfl) (by decide) ?_
            refine ex_al d_TM_count_154 rfl ?_
            refine tg 0 fl_TM_80 d_TM_count_155 rfl rfl ?_
            exact ex_iret [TW G h q (va_up f 0 0) g] hG d_TM_count_158 rfl rfl (by decide) (by decide) (eg_sub.of rfl) ⟨by rw [e119_1]; rfl, rfl⟩
          by_cases e119_2 : w = 2
          · skip
            refine ex_eqT (.int 2 :: _) (by rw [e119_2]) ?_
            refine ex_tabIn (tgt := 159) d_TM_count_119 (by decide) (by decide) (by rfl) (by decide) ?_
            refine ex_il d_TM_count_159 rfl ?_
            exact ex_iret [TW G h q (va_up f 0 0) g] hG d_TM_count_160 rfl rfl (by decide) (by decide) (eg_sub.of rfl) ⟨by rw [e119_2]; rfl, rfl⟩
          by_cases e119_3 : w = 3
          · skip
            refine ex_eqT (.int 3 :: _) (by rw [e119_3]) ?_
            refine ex_tabIn (tgt := 161) d_TM_count_119 (by decide) (by decide) (by rfl) (by decide) ?_
            refine ex_il d_TM_count_161 rfl ?_
            exact ex_iret [TW G h q (va_up f 0 0) g] hG d_TM_count_163 rfl rfl (by decide) (by decide) (eg_sub.of rfl) ⟨by rw [e119_3]; rfl, rfl⟩
          by_cases e119_4 : w = 4
          · skip
            refine ex_eqT (.int 4 :: _) (by rw [e119_4]) ?_
            refine ex_tabIn (tgt := 164) d_TM_count_119 (by decide) (by decide) (by rfl) (by decide) ?_
            refine ex_al d_TM_count_164 rfl ?_
            refine tg 0 fl_TM_93 d_TM_count_165 rfl rfl ?_
            exact ex_iret [TW G h q (va_up f 0 0) g] hG d_TM_count_168 rfl rfl (by decide) (by decide) (eg_sub.of rfl) ⟨by rw [e119_4]; rfl, rfl⟩
          refine ex_tabOut (tgt := 169) d_TM_count_119 (by have a0 := ne_t (k := 0) (by decide) e119_0; have a1 := ne_t (k := 1) (by decide) e119_1; have a2 := ne_t (k := 2) (by decide) e119_2; have a3 := ne_t (k := 3) (by decide) e119_3; have a4 := ne_t (k := 4) (by decide) e119_4; omega) (by decide) ?_
          refine ex_k d_TM_count_169 ?_
          exact ex_iret [TW G h q (va_up f 0 0) g] hG d_TM_count_170 rfl rfl (by decide) (by decide) (eg_sub.of rfl) ⟨by rw [cnI, if_neg e119_0, if_neg e119_1, if_neg e119_2, if_neg e119_3, if_neg e119_4], rfl⟩
        · skip
          have hlt3 := lt_n (a := 208) h57
          refine ex_al d_TM_count_60 rfl ?_
          refine ex_il d_TM_count_61 rfl ?_
          refine ex_cF [0] hR (c_TM_isRowFree l G h q (va_up f 0 0) g (nI j)) (eg_invV 0 d_TM_count_63 cd_TM_isRowFree cx_TM_133 rfl rfl List.mem_cons_self rfl rfl) cd_TM_isRowFree rfl rfl (Nat.le_of_ble_eq_true rfl) (by decide) (by decide) (by decide) (by decide) rfl ?_
          refine ex_is d_TM_count_66 (Nat.le_of_ble_eq_true rfl) ?_
          refine ex_eqL [some (.ref h), some (.int w), some (.int (nI (rcnt (mdP g) 12))), some (.int (nI (rcnt (rowP g) j))), some (.int (nI (rwC (rowP g) j))), some (.int (nI (rmx (rowP g) j))), some (.int (nI j)), some (.int (bI (rowP g j)))] rfl ?_
          have JB : ∀ z : Int32, z = bI (rowP g j) → Ex G Γ mu_TM_count 79 [some (.ref h), some (.int w), some (.int (nI (rcnt (mdP g) 12))), some (.int (nI (rcnt (rowP g) j))), some (.int (nI (rwC (rowP g) j))), some (.int (nI (rmx (rowP g) j))), some (.int (nI j)), some (.int (bI (rowP g j)))] [.int z, .int (nI (rcnt (rowP g) j))] [TW G h q (va_up f 0 0) g] 0 0 := by
            intro z hz
            subst hz
            refine ex_iadd d_TM_count_79 ?_
            rw [rcnt_I0]
            refine ex_is d_TM_count_80 (Nat.le_of_ble_eq_true rfl) ?_
            have JC : ∀ z : Int32, z = nI (rwC (rowP g) (j + 1)) → Ex G Γ mu_TM_count 94 [some (.ref h), some (.int w), some (.int (nI (rcnt (mdP g) 12))), some (.int (nI (rcnt (rowP g) (j + 1)))), some (.int (nI (rwC (rowP g) j))), some (.int (nI (rmx (rowP g) j))), some (.int (nI j)), some (.int (bI (rowP g j)))] [.int z] [TW G h q (va_up f 0 0) g] 0 0 := by
              intro z hz
              subst hz
              refine ex_is d_TM_count_94 (Nat.le_of_ble_eq_true rfl) ?_
              have JD : ∀ z : Int32, z = nI (rmx (rowP g) (j + 1)) → Ex G Γ mu_TM_count 110 [some (.ref h), some (.int w), some (.int (nI (rcnt (mdP g) 12))), some (.int (nI (rcnt (rowP g) (j + 1)))), some (.int (nI (rwC (rowP g) (j + 1)))), some (.int (nI (rmx (rowP g) j))), some (.int (nI j)), some (.int (bI (rowP g j)))] [.int z] [TW G h q (va_up f 0 0) g] 0 0 := by
                intro z hz
                subst hz
                refine ex_is d_TM_count_110 (Nat.le_of_ble_eq_true rfl) ?_
                refine ex_inc d_TM_count_112 rfl ?_
                refine ex_goto d_TM_count_115 ?_
                refine ex_forget [true, true, true, true, true, true, true, false] ?_
                exact ih3 hlt3
              refine ex_il d_TM_count_96 rfl ?_
              refine ex_il d_TM_count_98 rfl ?_
              have hb1 := rwC_le (rowP g) (j + 1)
              have hb2 := rmx_le (rowP g) j
              refine ex_icmp_le d_TM_count_100 (fun h100 => ?_) (fun h100 => ?_)
              · skip
                have h100 : rwC (rowP g) (j + 1) ≤ rmx (rowP g) j := (nI_leI (by omega) (by omega)).mp h100
                refine ex_il d_TM_count_108 rfl ?_
                exact JD _ (by rw [rmx, if_neg (by omega)])
              · skip
                have h100 : ¬ rwC (rowP g) (j + 1) ≤ rmx (rowP g) j := fun z => h100 ((nI_leI (by omega) (by omega)).mpr z)
                refine ex_il d_TM_count_103 rfl ?_
                refine ex_goto d_TM_count_105 ?_
                exact JD _ (by rw [rmx, if_pos (by omega)])
            refine ex_il d_TM_count_81 rfl ?_
            refine ex_if_eq d_TM_count_83 (fun h83 => ?_) (fun h83 => ?_)
            · skip
              have h83 := bI_0.mp h83
              refine ex_k d_TM_count_93 ?_
              exact JC _ (by rw [rwC, if_neg (by rw [h83]; decide)]; rfl)
            · skip
              have h83 : rowP g j = true := by cases hb : rowP g j; exact absurd (bI_0.mpr hb) h83; rfl
              refine ex_il d_TM_count_86 rfl ?_
              refine ex_k d_TM_count_88 ?_
              refine ex_iadd d_TM_count_89 ?_
              refine ex_goto d_TM_count_90 ?_
              exact JC _ (by rw [rwC, if_pos h83]; exact nI_1 _)
          refine ex_il d_TM_count_68 rfl ?_
          refine ex_il d_TM_count_69 rfl ?_
          refine ex_if_eq d_TM_count_71 (fun h71 => ?_) (fun h71 => ?_)
          · skip
            have h71 := bI_0.mp h71
            refine ex_k d_TM_count_78 ?_
            exact JB _ (by rw [h71]; rfl)
          · skip
            have h71 : rowP g j = true := by cases hb : rowP g j; exact absurd (bI_0.mpr hb) h71; rfl
            refine ex_k d_TM_count_74 ?_
            refine ex_goto d_TM_count_75 ?_
            exact JB _ (by rw [h71]; rfl)
      exact L3 0 (Nat.zero_le _)
    · skip
      have hlt := lt_n (a := 12) h22
      have JA : ∀ z : Int32, z = bI (mdP g j) → Ex G Γ mu_TM_count 41 [some (.ref h), some (.int w), some (.int (nI (rcnt (mdP g) j))), some (.int (nI 0)), some (.int (nI 0)), some (.int (nI 0)), some (.int (nI j)), none] [.int z, .int (nI (rcnt (mdP g) j))] [TW G h q (va_up f 0 0) g] 0 0 := by
        intro z hz
        subst hz
        refine ex_iadd d_TM_count_41 ?_
        rw [rcnt_I0]
        refine ex_is d_TM_count_42 (Nat.le_of_ble_eq_true rfl) ?_
        refine ex_inc d_TM_count_43 rfl ?_
        refine ex_goto d_TM_count_46 ?_
        exact ih hlt
      refine ex_il d_TM_count_25 rfl ?_
      refine ex_al d_TM_count_26 rfl ?_
      refine tg 0 fl_TM_25 d_TM_count_27 rfl rfl ?_
      refine ex_il d_TM_count_30 rfl ?_
      refine tl_8 0 d_TM_count_32 rfl (ix_e hlt) ?_
      refine ex_if_eq d_TM_count_33 (fun h33 => ?_) (fun h33 => ?_)
      · skip
        have h33 : g 8 j = 0 := h33
        refine ex_k d_TM_count_40 ?_
        exact JA _ (by clear JA ih hG hR; grind [mdP, bI])
      · skip
        have h33 : ¬ g 8 j = 0 := h33
        refine ex_k d_TM_count_36 ?_
        refine ex_goto d_TM_count_37 ?_
        exact JA _ (by clear JA ih hG hR; grind [mdP, bI])
  exact L 0 (Nat.zero_le _)
def ofP (g : Nat → Nat → Int32) (n m k : Nat) : Bool := decide (k < n) && decide (g 7 k = nI m)
def nxP (g : Nat → Nat → Int32) (w : Int32) (m k : Nat) : Bool := decide (¬ g 8 k = 0) && decide (¬ g 14 (if w = 3 then 12 * k + m else 12 * m + k) = 0)
def mdC (g : Nat → Nat → Int32) (n m : Nat) (w : Int32) : Int32 := if w = 0 then g 10 m else if w = 1 then g 11 m else if w = 2 then nI (rcnt (ofP g n m) 40) else if w = 3 ∨ w = 4 then nI (rcnt (nxP g w m) 12) else -1
def mdI (g : Nat → Nat → Int32) (n : Nat) (x w : Int32) : Int32 := match tmod g x with
  | none => -1
  | some m => mdC g n m w
set_option maxRecDepth 100000 in
theorem c_TM_module (l : Launch) (G : eg_G) (h : Nat) (q : Nat → Nat) (f : Nat → Int32) (g : Nat → Nat → Int32) (x w : Int32) (n : Nat) (hn : f 3 = nI n) (hn2 : n ≤ 40) : Ct l G y_TM_module 2 0 0 [.ref h, .int x, .int w] [TW G h q f g] (rF (some (.int (mdI g n x w))) [TW G h q (va_up f 0 0) g]) := by
  refine Ct.of cd_TM_module (eg_catb rfl) (Nat.le_of_ble_eq_true rfl) ?_
  intro Γ hG
  have hR := hG.rm
  show Ex G Γ mu_TM_module 0 [some (.ref h), some (.int x), some (.int w), none, none, none] [] [TW G h q f g] 0 0
  refine ex_al d_TM_module_0 rfl ?_
  refine ex_k d_TM_module_1 ?_
  refine tp_0 0 wl_TM_57 d_TM_module_2 rfl ?_
  refine ex_al d_TM_module_5 rfl ?_
  refine ex_il d_TM_module_6 rfl ?_
  refine ex_cF [0] hR (c_TM_numberOf l G h q (va_up f 0 0) g x) (eg_invV 0 d_TM_module_7 cd_TM_numberOf cx_TM_161 rfl rfl List.mem_cons_self rfl rfl) cd_TM_numberOf rfl rfl (Nat.le_of_ble_eq_true rfl) (by decide) (by decide) (by decide) (by decide) rfl ?_
  obtain ⟨o, ho⟩ : ∃ o, tmod g x = o := ⟨_, rfl⟩
  rw [ho]
  refine ex_is d_TM_module_10 (Nat.le_of_ble_eq_true rfl) ?_
  have hbad : mdI g n x w = -1 → Ex G Γ mu_TM_module 24 [some (.ref h), some (.int x), some (.int w), some (.int (oI o)), none, none] [] [TW G h q (va_up f 0 0) g] 0 0 := by
    intro hb
    refine ex_k d_TM_module_24 ?_
    exact ex_iret [TW G h q (va_up f 0 0) g] hG d_TM_module_25 rfl rfl (by decide) (by decide) (eg_sub.of rfl) ⟨by rw [hb], rfl⟩
  refine ex_il d_TM_module_11 rfl ?_
  refine ex_if_lt d_TM_module_12 (fun h12 => ?_) (fun h12 => ?_)
  · skip
    exact hbad (by
      cases o with
      | none => rw [mdI, ho]
      | some s => exact absurd h12 (nI_pos (by have := (tfind_lt ho).1; omega)))
  · skip
    obtain ⟨m, rfl⟩ : ∃ s, o = some s := by
      cases o with
      | none => exact absurd (by decide) h12
      | some s => exact ⟨s, rfl⟩
    have hm := (tfind_lt ho).1
    have hI : mdI g n x w = mdC g n m w := by rw [mdI, ho]
    refine ex_il d_TM_module_15 rfl ?_
    refine ex_if_lt d_TM_module_16 (fun h16 => ?_) (fun h16 => ?_)
    · skip
      exact hbad (by rw [hI, mdC]; clear hbad hG hR; grind)
    · skip
      skip
      refine ex_il d_TM_module_19 rfl ?_
      refine ex_k d_TM_module_20 ?_
      refine ex_icmp_le d_TM_module_21 (fun h21 => ?_) (fun h21 => ?_)
      · skip
        clear hbad
        refine ex_il d_TM_module_26 rfl ?_
        refine ex_k d_TM_module_27 ?_
        refine ex_icmp_ge d_TM_module_28 (fun h28 => ?_) (fun h28 => ?_)
        · skip
          have h28 : 2 ≤ w := h28
          have J : ∀ z z5 : Int32, z = nI (if w = 2 then rcnt (ofP g n m) 40 else 0) → Ex G Γ mu_TM_module 105 [some (.ref h), some (.int x), some (.int w), some (.int (nI m)), some (.int z), some (.int z5)] [] [TW G h q (va_up f 0 0) g] 0 0 := by
            intro z z5 hz
            subst hz
            refine ex_k d_TM_module_105 ?_
            refine ex_is d_TM_module_106 (Nat.le_of_ble_eq_true rfl) ?_
            have L2 : ∀ j, j ≤ 12 → (¬ 2 < w → j = 0) → Ex G Γ mu_TM_module 108 [some (.ref h), some (.int x), some (.int w), some (.int (nI m)), some (.int (nI ((if w = 2 then rcnt (ofP g n m) 40 else 0) + rcnt (nxP g w m) j))), some (.int (nI j))] [] [TW G h q (va_up f 0 0) g] 0 0 := by
              refine eg_down 12 (fun j hj ih hw => ?_)
              refine ex_il d_TM_module_108 rfl ?_
              refine ex_k d_TM_module_110 ?_
              refine ex_icmp_ge d_TM_module_112 (fun h112 => ?_) (fun h112 => ?_)
              · skip
                have h112 := le_n (a := 12) h112
                have hj4 : j = 12 := by omega
                subst hj4
                refine ex_il d_TM_module_176 rfl ?_
                exact ex_iret [TW G h q (va_up f 0 0) g] hG d_TM_module_178 rfl rfl (by decide) (by decide) (eg_sub.of rfl) ⟨by rw [hI, mdC, if_neg (show ¬ w = 0 by rintro rfl; exact absurd h28 (by decide)), if_neg (show ¬ w = 1 by rintro rfl; exact absurd h28 (by decide))]; have hw2 : 2 < w := Classical.byContradiction (fun z => absurd (hw z) (by decide)); have hw3 : ¬ w = 2 := (by rintro rfl; exact absurd hw2 (by decide)); rw [if_neg hw3, if_neg hw3, if_pos (by clear hG hR; grind), Nat.zero_add], rfl⟩
              · skip
                have hlt := lt_n (a := 12) h112
                refine ex_il d_TM_module_115 rfl ?_
                refine ex_k d_TM_module_116 ?_
                refine ex_icmp_le d_TM_module_117 (fun h117 => ?_) (fun h117 => ?_)
                · skip
                  have h117 : ¬ 2 < w := Int32.not_lt.mpr h117
                  refine ex_il d_TM_module_176 rfl ?_
                  exact ex_iret [TW G h q (va_up f 0 0) g] hG d_TM_module_178 rfl rfl (by decide) (by decide) (eg_sub.of rfl) ⟨by rw [hI, mdC, if_neg (show ¬ w = 0 by rintro rfl; exact absurd h28 (by decide)), if_neg (show ¬ w = 1 by rintro rfl; exact absurd h28 (by decide))]; have hw3 : w = 2 := (by clear hG hR; grind); rw [hw h117, if_pos hw3, if_pos hw3]; rfl, rfl⟩
                · skip
                  have h117 : 2 < w := Int32.not_le.mp h117
                  have JA : ∀ z : Int32, z = bI (nxP g w m j) → Ex G Γ mu_TM_module 167 [some (.ref h), some (.int x), some (.int w), some (.int (nI m)), some (.int (nI ((if w = 2 then rcnt (ofP g n m) 40 else 0) + rcnt (nxP g w m) j))), some (.int (nI j))] [.int z, .int (nI ((if w = 2 then rcnt (ofP g n m) 40 else 0) + rcnt (nxP g w m) j))] [TW G h q (va_up f 0 0) g] 0 0 := by
                    intro z hz
                    subst hz
                    refine ex_iadd d_TM_module_167 ?_
                    rw [rcnt_I]
                    refine ex_is d_TM_module_168 (Nat.le_of_ble_eq_true rfl) ?_
                    refine ex_inc d_TM_module_170 rfl ?_
                    refine ex_goto d_TM_module_173 ?_
                    exact ih hlt (fun z => absurd h117 z)
                  refine ex_il d_TM_module_120 rfl ?_
                  refine ex_al d_TM_module_122 rfl ?_
                  refine tg 0 fl_TM_25 d_TM_module_123 rfl rfl ?_
                  refine ex_il d_TM_module_126 rfl ?_
                  refine tl_8 0 d_TM_module_128 rfl (ix_e hlt) ?_
                  refine ex_if_eq d_TM_module_129 (fun h129 => ?_) (fun h129 => ?_)
                  · skip
                    refine ex_k d_TM_module_166 ?_
                    exact JA _ (by clear JA ih hG hR; grind [nxP, bI])
                  · skip
                    have JB : ∀ z : Int32, z = nI (if w = 3 then 12 * j + m else 12 * m + j) → Ex G Γ mu_TM_module 158 [some (.ref h), some (.int x), some (.int w), some (.int (nI m)), some (.int (nI ((if w = 2 then rcnt (ofP g n m) 40 else 0) + rcnt (nxP g w m) j))), some (.int (nI j))] [.int z, .ref (q 14), .int (nI ((if w = 2 then rcnt (ofP g n m) 40 else 0) + rcnt (nxP g w m) j))] [TW G h q (va_up f 0 0) g] 0 0 := by
                      intro z hz
                      subst hz
                      refine tl_14 0 d_TM_module_158 rfl (ix_e (j := if w = 3 then 12 * j + m else 12 * m + j) (by split <;> omega)) ?_
                      refine ex_if_eq d_TM_module_159 (fun h159 => ?_) (fun h159 => ?_)
                      · skip
                        refine ex_k d_TM_module_166 ?_
                        exact JA _ (by clear JA ih hG hR; grind [nxP, bI])
                      · skip
                        refine ex_k d_TM_module_162 ?_
                        refine ex_goto d_TM_module_163 ?_
                        exact JA _ (by clear JA ih hG hR; grind [nxP, bI])
                    refine ex_al d_TM_module_132 rfl ?_
                    refine tg 0 fl_TM_44 d_TM_module_133 rfl rfl ?_
                    refine ex_il d_TM_module_136 rfl ?_
                    refine ex_k d_TM_module_137 ?_
                    refine ex_icmp_ne d_TM_module_138 (fun h138 => ?_) (fun h138 => ?_)
                    · skip
                      refine ex_k d_TM_module_151 ?_
                      refine ex_il d_TM_module_153 rfl ?_
                      refine ex_imul d_TM_module_154 ?_
                      refine ex_il d_TM_module_155 rfl ?_
                      refine ex_iadd d_TM_module_157 ?_
                      exact JB _ (by rw [if_neg h138]; show nI 12 * nI m + nI j = _; rw [pk_mul, nI_add])
                    · skip
                      refine ex_k d_TM_module_141 ?_
                      refine ex_il d_TM_module_143 rfl ?_
                      refine ex_imul d_TM_module_145 ?_
                      refine ex_il d_TM_module_146 rfl ?_
                      refine ex_iadd d_TM_module_147 ?_
                      refine ex_goto d_TM_module_148 ?_
                      exact JB _ (by rw [if_pos h138]; show nI 12 * nI j + nI m = _; rw [pk_mul, nI_add])
            exact L2 0 (Nat.zero_le _) (fun _ => rfl)
          refine ex_k d_TM_module_51 ?_
          refine ex_is d_TM_module_52 (Nat.le_of_ble_eq_true rfl) ?_
          refine ex_k d_TM_module_54 ?_
          refine ex_is d_TM_module_55 (Nat.le_of_ble_eq_true rfl) ?_
          have L : ∀ j, j ≤ 40 → (¬ w = 2 → j = 0) → Ex G Γ mu_TM_module 57 [some (.ref h), some (.int x), some (.int w), some (.int (nI m)), some (.int (nI (rcnt (ofP g n m) j))), some (.int (nI j))] [] [TW G h q (va_up f 0 0) g] 0 0 := by
            refine eg_down 40 (fun j hj ih hw => ?_)
            refine ex_il d_TM_module_57 rfl ?_
            refine ex_k d_TM_module_59 ?_
            refine ex_icmp_ge d_TM_module_61 (fun h61 => ?_) (fun h61 => ?_)
            · skip
              have h61 := le_n (a := 40) h61
              have hj4 : j = 40 := by omega
              subst hj4
              exact J _ _ (by have hw2 : w = 2 := Classical.byContradiction (fun z => absurd (hw z) (by decide)); rw [if_pos hw2])
            · skip
              have hlt := lt_n (a := 40) h61
              refine ex_il d_TM_module_64 rfl ?_
              refine ex_k d_TM_module_65 ?_
              refine ex_icmp_ne d_TM_module_66 (fun h66 => ?_) (fun h66 => ?_)
              · skip
                have h66 : ¬ w = 2 := h66
                exact J _ _ (by rw [if_neg h66, hw h66]; rfl)
              · skip
                have h66 : w = 2 := h66
                have JA : ∀ z : Int32, z = bI (ofP g n m j) → Ex G Γ mu_TM_module 96 [some (.ref h), some (.int x), some (.int w), some (.int (nI m)), some (.int (nI (rcnt (ofP g n m) j))), some (.int (nI j))] [.int z, .int (nI (rcnt (ofP g n m) j))] [TW G h q (va_up f 0 0) g] 0 0 := by
                  intro z hz
                  subst hz
                  refine ex_iadd d_TM_module_96 ?_
                  rw [rcnt_I0]
                  refine ex_is d_TM_module_97 (Nat.le_of_ble_eq_true rfl) ?_
                  refine ex_inc d_TM_module_99 rfl ?_
                  refine ex_goto d_TM_module_102 ?_
                  exact ih hlt (fun z => absurd h66 z)
                refine ex_il d_TM_module_69 rfl ?_
                refine ex_il d_TM_module_71 rfl ?_
                refine ex_al d_TM_module_73 rfl ?_
                refine tg 0 fl_TM_80 d_TM_module_74 rfl rfl ?_
                refine ex_icmp_ge d_TM_module_77 (fun h77 => ?_) (fun h77 => ?_)
                · skip
                  have h77 : ¬ j < n := by
                    have := le_n (a := n) h77 hn
                    omega
                  refine ex_k d_TM_module_95 ?_
                  exact JA _ (by clear J JA ih hG hR; grind [ofP, bI])
                · skip
                  have h77 : j < n := lt_n (a := n) h77 hn
                  refine ex_al d_TM_module_80 rfl ?_
                  refine tg 0 fl_TM_22 d_TM_module_81 rfl rfl ?_
                  refine ex_il d_TM_module_84 rfl ?_
                  refine tl_7 0 d_TM_module_86 rfl (ix_e hlt) ?_
                  refine ex_il d_TM_module_87 rfl ?_
                  refine ex_icmp_ne d_TM_module_88 (fun h88 => ?_) (fun h88 => ?_)
                  · skip
                    refine ex_k d_TM_module_95 ?_
                    exact JA _ (by clear J JA ih hG hR; grind [ofP, bI])
                  · skip
                    refine ex_k d_TM_module_91 ?_
                    refine ex_goto d_TM_module_92 ?_
                    exact JA _ (by clear J JA ih hG hR; grind [ofP, bI])
          exact L 0 (Nat.zero_le _) (fun _ => rfl)
        · skip
          have h28 : w = 0 ∨ w = 1 := by clear hG hR; grind
          have J : ∀ z : Int32, z = mdC g n m w → Ex G Γ mu_TM_module 50 [some (.ref h), some (.int x), some (.int w), some (.int (nI m)), none, none] [.int z] [TW G h q (va_up f 0 0) g] 0 0 := by
            intro z hz
            subst hz
            exact ex_iret [TW G h q (va_up f 0 0) g] hG d_TM_module_50 rfl rfl (by decide) (by decide) (eg_sub.of rfl) ⟨by rw [hI], rfl⟩
          refine ex_il d_TM_module_31 rfl ?_
          refine ex_if_ne d_TM_module_32 (fun h32 => ?_) (fun h32 => ?_)
          · skip
            refine ex_al d_TM_module_44 rfl ?_
            refine tg 0 fl_TM_35 d_TM_module_45 rfl rfl ?_
            refine ex_il d_TM_module_48 rfl ?_
            refine tl_11 0 d_TM_module_49 rfl (ix_e hm) ?_
            exact J _ (by rw [mdC]; clear J hG hR; grind)
          · skip
            refine ex_al d_TM_module_35 rfl ?_
            refine tg 0 fl_TM_32 d_TM_module_36 rfl rfl ?_
            refine ex_il d_TM_module_39 rfl ?_
            refine tl_10 0 d_TM_module_40 rfl (ix_e hm) ?_
            refine ex_goto d_TM_module_41 ?_
            exact J _ (by rw [mdC]; clear J hG hR; grind)
      · skip
        exact hbad (by rw [hI, mdC]; clear hbad hG hR; grind)
