/-! THE TWIN, 1: leaves -/
/-- a loop that counts up to N: from its end backwards -/
theorem eg_down {P : Nat → Prop} (N : Nat) (hs : ∀ j, j ≤ N → (j < N → P (j + 1)) → P j) : ∀ j, j ≤ N → P j := by
  have key : ∀ m j, j + m = N → P j := by
    intro m
    induction m with
    | zero => intro j hj; exact hs j (by omega) (fun h => absurd h (by omega))
    | succ m ih => intro j hj; exact hs j (by omega) (fun _ => ih (j + 1) (by omega))
  intro j hj
  exact key (N - j) j (by omega)
theorem le_n {c : Int32} {a j : Nat} (h : c ≤ nI j) (hc : c = nI a := by rfl) (ha : a < 2 ^ 31 := by omega) (hj : j < 2 ^ 31 := by omega) : a ≤ j := by rw [hc] at h; exact (nI_leI ha hj).mp h
theorem lt_n {c : Int32} {a j : Nat} (h : ¬ c ≤ nI j) (hc : c = nI a := by rfl) (ha : a < 2 ^ 31 := by omega) (hj : j < 2 ^ 31 := by omega) : j < a := by rw [hc, nI_leI ha hj] at h; omega
theorem nI_inc (j : Nat) : nI j + Int32.ofInt 1 = nI (j + 1) := nI_1 j
theorem ex_inc {G : eg_G} {Γ : eg_C} {μ : eg_M} {pc nx i n k j : Nat} {lv : List (Option Value)} {rest : List Value} {S : eg_S} (hd : dx μ pc (.iinc i 1) 3 nx) (hv : lv[i]? = some (some (.int (nI j)))) (kk : Ex G Γ μ nx (lv.set i (some (.int (nI (j + 1))))) rest S n k) : Ex G Γ μ pc lv rest S n k := ex_iinc hd hv (by rw [nI_inc]; exact kk)
theorem bI_t {b : Bool} (h : b = true) : (1 : Int32) = bI b := by rw [h]; rfl
theorem bI_e {b : Bool} (h : b = false) : (0 : Int32) = bI b := by rw [h]; rfl
theorem ix_e {i : Int32} {j N : Nat} (h : j < N) (e : i = nI j := by rfl) (hN : N < 2 ^ 31 := by decide) : ix i j N := ix_of e h hN
def wdA (u : Nat → Int32) (a : Nat) : Int32 := u a ||| u (a + 1) <<< ((8 : Int32) &&& 31) ||| u (a + 2) <<< ((16 : Int32) &&& 31) ||| u (a + 3) <<< ((24 : Int32) &&& 31)
set_option maxRecDepth 100000 in
theorem c_TM_thrown (l : Launch) (G : eg_G) (h : Nat) (q : Nat → Nat) (f : Nat → Int32) (g : Nat → Nat → Int32) : Ct l G y_TM_thrown 1 0 0 [.ref h] [TW G h q f g] (rF (some (.int (f 0))) [TW G h q f g]) := by
  refine Ct.of cd_TM_thrown (eg_catb rfl) (Nat.le_of_ble_eq_true rfl) ?_
  intro Γ hG
  have hR := hG.rm
  show Ex G Γ mu_TM_thrown 0 [some (.ref h)] [] [TW G h q f g] 0 0
  refine ex_al d_TM_thrown_0 rfl ?_
  refine tg 0 fl_TM_57 d_TM_thrown_1 rfl rfl ?_
  exact ex_iret [TW G h q f g] hG d_TM_thrown_4 rfl rfl (by decide) (by decide) (eg_sub.of rfl) ⟨rfl, rfl⟩
set_option maxRecDepth 100000 in
theorem c_TM_byteAt (l : Launch) (G : eg_G) (h : Nat) (q : Nat → Nat) (f : Nat → Int32) (g : Nat → Nat → Int32) (a : Nat) (ha : a < 4096) : Ct l G y_TM_byteAt 1 0 0 [.ref h, .int (nI a)] [TW G h q f g] (rF (some (.int (g 1 a))) [TW G h q f g]) := by
  refine Ct.of cd_TM_byteAt (eg_catb rfl) (Nat.le_of_ble_eq_true rfl) ?_
  intro Γ hG
  have hR := hG.rm
  show Ex G Γ mu_TM_byteAt 0 [some (.ref h), some (.int (nI a))] [] [TW G h q f g] 0 0
  refine ex_al d_TM_byteAt_0 rfl ?_
  refine tg 0 fl_TM_7 d_TM_byteAt_1 rfl rfl ?_
  refine ex_il d_TM_byteAt_4 rfl ?_
  refine tl_1 0 d_TM_byteAt_5 rfl (ix_e ha) ?_
  exact ex_iret [TW G h q f g] hG d_TM_byteAt_6 rfl rfl (by decide) (by decide) (eg_sub.of rfl) ⟨rfl, rfl⟩
set_option maxRecDepth 100000 in
theorem c_TM_wordAt (l : Launch) (G : eg_G) (h : Nat) (q : Nat → Nat) (f : Nat → Int32) (g : Nat → Nat → Int32) (a : Nat) (ha : a + 3 < 4096) : Ct l G y_TM_wordAt 1 0 0 [.ref h, .int (nI a)] [TW G h q f g] (rF (some (.int (wdA (g 1) a))) [TW G h q f g]) := by
  refine Ct.of cd_TM_wordAt (eg_catb rfl) (Nat.le_of_ble_eq_true rfl) ?_
  intro Γ hG
  have hR := hG.rm
  show Ex G Γ mu_TM_wordAt 0 [some (.ref h), some (.int (nI a))] [] [TW G h q f g] 0 0
  refine ex_al d_TM_wordAt_0 rfl ?_
  refine tg 0 fl_TM_7 d_TM_wordAt_1 rfl rfl ?_
  refine ex_il d_TM_wordAt_4 rfl ?_
  refine tl_1 0 d_TM_wordAt_5 rfl (ix_e (j := a) (by omega)) ?_
  refine ex_al d_TM_wordAt_6 rfl ?_
  refine tg 0 fl_TM_7 d_TM_wordAt_7 rfl rfl ?_
  refine ex_il d_TM_wordAt_10 rfl ?_
  refine ex_k d_TM_wordAt_11 ?_
  refine ex_iadd d_TM_wordAt_12 ?_
  refine tl_1 0 d_TM_wordAt_13 rfl (ix_e (j := a + 1) (by omega) (nI_add a 1)) ?_
  refine ex_k d_TM_wordAt_14 ?_
  refine ex_ishl d_TM_wordAt_16 ?_
  refine ex_ior d_TM_wordAt_17 ?_
  refine ex_al d_TM_wordAt_18 rfl ?_
  refine tg 0 fl_TM_7 d_TM_wordAt_19 rfl rfl ?_
  refine ex_il d_TM_wordAt_22 rfl ?_
  refine ex_k d_TM_wordAt_23 ?_
  refine ex_iadd d_TM_wordAt_24 ?_
  refine tl_1 0 d_TM_wordAt_25 rfl (ix_e (j := a + 2) (by omega) (nI_add a 2)) ?_
  refine ex_k d_TM_wordAt_26 ?_
  refine ex_ishl d_TM_wordAt_28 ?_
  refine ex_ior d_TM_wordAt_29 ?_
  refine ex_al d_TM_wordAt_30 rfl ?_
  refine tg 0 fl_TM_7 d_TM_wordAt_31 rfl rfl ?_
  refine ex_il d_TM_wordAt_34 rfl ?_
  refine ex_k d_TM_wordAt_35 ?_
  refine ex_iadd d_TM_wordAt_36 ?_
  refine tl_1 0 d_TM_wordAt_37 rfl (ix_e (j := a + 3) (by omega) (nI_add a 3)) ?_
  refine ex_k d_TM_wordAt_38 ?_
  refine ex_ishl d_TM_wordAt_40 ?_
  refine ex_ior d_TM_wordAt_41 ?_
  exact ex_iret [TW G h q f g] hG d_TM_wordAt_42 rfl rfl (by decide) (by decide) (eg_sub.of rfl) ⟨rfl, rfl⟩
set_option maxRecDepth 100000 in
theorem c_TM_fresh (l : Launch) (G : eg_G) (h : Nat) (q : Nat → Nat) (f : Nat → Int32) (g : Nat → Nat → Int32) : Ct l G y_TM_fresh 1 0 0 [.ref h] [TW G h q f g] (rF none [TW G h q (va_up (va_up (va_up (va_up (va_up f 17 0) 18 (-1)) 19 0) 20 0) 21 0) g]) := by
  refine Ct.of cd_TM_fresh (eg_catb rfl) (Nat.le_of_ble_eq_true rfl) ?_
  intro Γ hG
  have hR := hG.rm
  show Ex G Γ mu_TM_fresh 0 [some (.ref h)] [] [TW G h q f g] 0 0
  refine ex_al d_TM_fresh_0 rfl ?_
  refine ex_k d_TM_fresh_1 ?_
  refine tp_17 0 wl_TM_136 d_TM_fresh_2 rfl ?_
  refine ex_al d_TM_fresh_5 rfl ?_
  refine ex_k d_TM_fresh_6 ?_
  refine tp_18 0 wl_TM_50 d_TM_fresh_7 rfl ?_
  refine ex_al d_TM_fresh_10 rfl ?_
  refine ex_k d_TM_fresh_11 ?_
  refine tp_19 0 wl_TM_146 d_TM_fresh_12 rfl ?_
  refine ex_al d_TM_fresh_15 rfl ?_
  refine ex_k d_TM_fresh_16 ?_
  refine tp_20 0 wl_TM_149 d_TM_fresh_17 rfl ?_
  refine ex_al d_TM_fresh_20 rfl ?_
  refine ex_k d_TM_fresh_21 ?_
  refine tp_21 0 wl_TM_152 d_TM_fresh_22 rfl ?_
  exact ex_vret [TW G h q (va_up (va_up (va_up (va_up (va_up f 17 0) 18 (-1)) 19 0) 20 0) 21 0) g] hG d_TM_fresh_25 rfl (by decide) (by decide) (eg_sub.of rfl) ⟨rfl, rfl⟩
set_option maxRecDepth 100000 in
theorem c_TM_wrong (l : Launch) (G : eg_G) (h : Nat) (q : Nat → Nat) (f : Nat → Int32) (g : Nat → Nat → Int32) (u v : Int32) : Ct l G y_TM_wrong 1 0 0 [.ref h, .int u, .int v] [TW G h q f g] (rF (some (.int 1)) [TW G h q (va_up (va_up f 17 u) 18 v) g]) := by
  refine Ct.of cd_TM_wrong (eg_catb rfl) (Nat.le_of_ble_eq_true rfl) ?_
  intro Γ hG
  have hR := hG.rm
  show Ex G Γ mu_TM_wrong 0 [some (.ref h), some (.int u), some (.int v)] [] [TW G h q f g] 0 0
  refine ex_al d_TM_wrong_0 rfl ?_
  refine ex_il d_TM_wrong_1 rfl ?_
  refine tp_17 0 wl_TM_136 d_TM_wrong_2 rfl ?_
  refine ex_al d_TM_wrong_5 rfl ?_
  refine ex_il d_TM_wrong_6 rfl ?_
  refine tp_18 0 wl_TM_50 d_TM_wrong_7 rfl ?_
  refine ex_k d_TM_wrong_10 ?_
  exact ex_iret [TW G h q (va_up (va_up f 17 u) 18 v) g] hG d_TM_wrong_11 rfl rfl (by decide) (by decide) (eg_sub.of rfl) ⟨rfl, rfl⟩
set_option maxRecDepth 100000 in
theorem c_TM_bits (l : Launch) (G : eg_G) (w u v : Int32) : Ct l G y_TM_bits 1 0 0 [.int w, .int u, .int v] [] (rF (some (.int (w >>> (u &&& 31) &&& (1 <<< (v &&& 31) - 1)))) []) := by
  refine Ct.of cd_TM_bits (eg_catb rfl) (Nat.le_of_ble_eq_true rfl) ?_
  intro Γ hG
  have hR := hG.rm
  show Ex G Γ mu_TM_bits 0 [some (.int w), some (.int u), some (.int v)] [] [] 0 0
  refine ex_il d_TM_bits_0 rfl ?_
  refine ex_il d_TM_bits_1 rfl ?_
  refine ex_ishr d_TM_bits_2 ?_
  refine ex_k d_TM_bits_3 ?_
  refine ex_il d_TM_bits_4 rfl ?_
  refine ex_ishl d_TM_bits_5 ?_
  refine ex_k d_TM_bits_6 ?_
  refine ex_isub d_TM_bits_7 ?_
  refine ex_iand d_TM_bits_8 ?_
  exact ex_iret [] hG d_TM_bits_9 rfl rfl (by decide) (by decide) (eg_sub.of rfl) ⟨rfl, rfl⟩
def isWd (a e : Int32) : Bool := decide (0 ≤ a) && decide (a < e) && decide (a - a / 4 * 4 = 0)
set_option maxRecDepth 100000 in
theorem c_TM_isWord (l : Launch) (G : eg_G) (a e : Int32) : Ct l G y_TM_isWord 1 0 0 [.int a, .int e] [] (rF (some (.int (bI (isWd a e)))) []) := by
  refine Ct.of cd_TM_isWord (eg_catb rfl) (Nat.le_of_ble_eq_true rfl) ?_
  intro Γ hG
  have hR := hG.rm
  show Ex G Γ mu_TM_isWord 0 [some (.int a), some (.int e)] [] [] 0 0
  have J : ∀ z : Int32, z = bI (isWd a e) → Ex G Γ mu_TM_isWord 20 [some (.int a), some (.int e)] [.int z] [] 0 0 := by
    intro z hz
    subst hz
    exact ex_iret [] hG d_TM_isWord_20 rfl (bI_n _) (by decide) (by decide) (eg_sub.of rfl) ⟨rfl, rfl⟩
  refine ex_il d_TM_isWord_0 rfl ?_
  refine ex_if_lt d_TM_isWord_1 (fun h1 => ?_) (fun h1 => ?_)
  · skip
    refine ex_k d_TM_isWord_19 ?_
    exact J _ (by clear J hG hR; grind [bI, isWd])
  · skip
    refine ex_il d_TM_isWord_4 rfl ?_
    refine ex_il d_TM_isWord_5 rfl ?_
    refine ex_icmp_ge d_TM_isWord_6 (fun h6 => ?_) (fun h6 => ?_)
    · skip
      refine ex_k d_TM_isWord_19 ?_
      exact J _ (by clear J hG hR; grind [bI, isWd])
    · skip
      refine ex_il d_TM_isWord_9 rfl ?_
      refine ex_k d_TM_isWord_10 ?_
      refine ex_irem d_TM_isWord_11 (by decide) ?_
      refine ex_if_ne d_TM_isWord_12 (fun h12 => ?_) (fun h12 => ?_)
      · skip
        refine ex_k d_TM_isWord_19 ?_
        exact J _ (by clear J hG hR; grind [bI, isWd])
      · skip
        refine ex_k d_TM_isWord_15 ?_
        refine ex_goto d_TM_isWord_16 ?_
        exact J _ (by clear J hG hR; grind [bI, isWd])
def oI : Option Nat → Int32
  | some k => nI k
  | none => -1
def tfind (p : Nat → Bool) (n : Nat) : Option Nat := (List.range n).find? p
theorem tfind_some {p : Nat → Bool} {n j : Nat} (hj : j < n) (hp : p j = true) (h : ∀ i, i < j → p i = false) : tfind p n = some j := by
  unfold tfind
  rw [List.find?_range_eq_some]
  exact ⟨hp, List.mem_range.mpr hj, fun i hi => by rw [h i hi]; rfl⟩
theorem tfind_none {p : Nat → Bool} {n : Nat} (h : ∀ i, i < n → p i = false) : tfind p n = none := by
  unfold tfind
  rw [List.find?_range_eq_none]
  exact fun i hi => by rw [h i hi]; rfl
abbrev tsym (g : Nat → Nat → Int32) (n : Nat) (x : Int32) : Option Nat := tfind (fun k => decide (g 4 k = x)) n
set_option maxRecDepth 100000 in
theorem c_TM_find (l : Launch) (G : eg_G) (h : Nat) (q : Nat → Nat) (f : Nat → Int32) (g : Nat → Nat → Int32) (x : Int32) (m : Nat) (hm : f 3 = nI m) (hm2 : m ≤ 40) : Ct l G y_TM_find 1 0 0 [.ref h, .int x] [TW G h q f g] (rF (some (.int (oI (tsym g m x)))) [TW G h q f g]) := by
  refine Ct.of cd_TM_find (eg_catb rfl) (Nat.le_of_ble_eq_true rfl) ?_
  intro Γ hG
  have hR := hG.rm
  show Ex G Γ mu_TM_find 0 [some (.ref h), some (.int x), none] [] [TW G h q f g] 0 0
  refine ex_k d_TM_find_0 ?_
  refine ex_is d_TM_find_1 (Nat.le_of_ble_eq_true rfl) ?_
  have L : ∀ j, j ≤ m → (∀ i, i < j → ¬ g 4 i = x) → Ex G Γ mu_TM_find 2 [some (.ref h), some (.int x), some (.int (nI j))] [] [TW G h q f g] 0 0 := by
    refine eg_down m (fun j hj ih hno => ?_)
    have J : ∀ z : Int32, z = oI (tsym g m x) → Ex G Γ mu_TM_find 39 [some (.ref h), some (.int x), some (.int (nI j))] [.int z] [TW G h q f g] 0 0 := by
      intro z hz
      subst hz
      exact ex_iret [TW G h q f g] hG d_TM_find_39 rfl rfl (by decide) (by decide) (eg_sub.of rfl) ⟨rfl, rfl⟩
    refine ex_il d_TM_find_2 rfl ?_
    refine ex_al d_TM_find_3 rfl ?_
    refine tg 0 fl_TM_80 d_TM_find_4 rfl rfl ?_
    refine ex_icmp_ge d_TM_find_7 (fun h7 => ?_) (fun h7 => ?_)
    · skip
      have h7 := le_n (a := m) h7 hm
      refine ex_il d_TM_find_26 rfl ?_
      refine ex_al d_TM_find_27 rfl ?_
      refine tg 0 fl_TM_80 d_TM_find_28 rfl rfl ?_
      refine ex_icmp_ge d_TM_find_31 (fun h31 => ?_) (fun h31 => ?_)
      · skip
        have h31 := le_n (a := m) h31 hm
        refine ex_k d_TM_find_38 ?_
        exact J _ (by rw [tsym, tfind_none (fun i hi => by simpa using hno i (by omega))]; rfl)
      · skip
        have h31 := lt_n (a := m) h31 hm
        refine ex_il d_TM_find_34 rfl ?_
        refine ex_goto d_TM_find_35 ?_
        exact J _ (by rw [tsym, tfind_some (j := j) (by omega) (by simp_all) (fun i hi => by simpa using hno i hi)]; rfl)
    · skip
      have hlt := lt_n (a := m) h7 hm
      refine ex_al d_TM_find_10 rfl ?_
      refine tg 0 fl_TM_13 d_TM_find_11 rfl rfl ?_
      refine ex_il d_TM_find_14 rfl ?_
      refine tl_4 0 d_TM_find_15 rfl (ix_e (j := j) (by omega)) ?_
      refine ex_il d_TM_find_16 rfl ?_
      refine ex_icmp_eq d_TM_find_17 (fun h17 => ?_) (fun h17 => ?_)
      · skip
        refine ex_il d_TM_find_26 rfl ?_
        refine ex_al d_TM_find_27 rfl ?_
        refine tg 0 fl_TM_80 d_TM_find_28 rfl rfl ?_
        refine ex_icmp_ge d_TM_find_31 (fun h31 => ?_) (fun h31 => ?_)
        · skip
          have h31 := le_n (a := m) h31 hm
          refine ex_k d_TM_find_38 ?_
          exact J _ (by rw [tsym, tfind_none (fun i hi => by simpa using hno i (by omega))]; rfl)
        · skip
          have h31 := lt_n (a := m) h31 hm
          refine ex_il d_TM_find_34 rfl ?_
          refine ex_goto d_TM_find_35 ?_
          exact J _ (by rw [tsym, tfind_some (j := j) (by omega) (by simp_all) (fun i hi => by simpa using hno i hi)]; rfl)
      · skip
        refine ex_inc d_TM_find_20 rfl ?_
        refine ex_goto d_TM_find_23 ?_
        exact ih hlt (fun i hi => by rcases Nat.lt_or_ge i j with z | z; exact hno i z; rw [show i = j by omega]; exact h17)
  exact L 0 (Nat.zero_le _) (fun i hi => absurd hi (Nat.not_lt_zero _))
def rall (p : Nat → Bool) (n : Nat) : Bool := (List.range n).all p
def rany (p : Nat → Bool) (n : Nat) : Bool := (List.range n).any p
theorem rall_0 (p : Nat → Bool) : rall p 0 = true := rfl
theorem rany_0 (p : Nat → Bool) : rany p 0 = false := rfl
theorem rall_s (p : Nat → Bool) (n : Nat) : rall p (n + 1) = (rall p n && p n) := by simp [rall, List.range_succ]
theorem rany_s (p : Nat → Bool) (n : Nat) : rany p (n + 1) = (rany p n || p n) := by simp [rany, List.range_succ]
theorem rall_iff {p : Nat → Bool} {n : Nat} : rall p n = true ↔ ∀ i, i < n → p i = true := by simp [rall, List.all_eq_true]
theorem rany_iff {p : Nat → Bool} {n : Nat} : rany p n = true ↔ ∃ i, i < n ∧ p i = true := by simp [rany, List.any_eq_true]
def nmP (x : Int32) (k : Nat) : Bool := decide (97 ≤ x >>> (nI (8 * k) &&& 31) &&& 255) && decide (x >>> (nI (8 * k) &&& 31) &&& 255 ≤ 122)
def nmB (x : Int32) : Bool := rall (nmP x) 4
/-- which addresses are guarded -/
def gdP (f : Nat → Int32) (g : Nat → Nat → Int32) (a : Int32) (m : Nat) : Bool := decide (¬ g 8 m = 0) && decide (g 10 m ≤ a) && decide (a < g 10 m + g 12 m)
def gdB (f : Nat → Int32) (g : Nat → Nat → Int32) (a : Int32) : Bool := if a < 0 ∨ 4096 ≤ a then false else if a < 512 then decide (¬ f 2 = 0) else rany (gdP f g a) 12
theorem bI_nz {x : Int32} (h : x = 0 ∨ x = 1) : bI (decide (¬ x = 0)) = x := by rcases h with rfl | rfl <;> decide
set_option maxRecDepth 100000 in
theorem c_TM_isName (l : Launch) (G : eg_G) (x : Int32) : Ct l G y_TM_isName 1 0 0 [.int x] [] (rF (some (.int (bI (nmB x)))) []) := by
  refine Ct.of cd_TM_isName (eg_catb rfl) (Nat.le_of_ble_eq_true rfl) ?_
  intro Γ hG
  have hR := hG.rm
  show Ex G Γ mu_TM_isName 0 [some (.int x), none, none] [] [] 0 0
  refine ex_k d_TM_isName_0 ?_
  refine ex_is d_TM_isName_1 (Nat.le_of_ble_eq_true rfl) ?_
  refine ex_k d_TM_isName_2 ?_
  refine ex_is d_TM_isName_3 (Nat.le_of_ble_eq_true rfl) ?_
  have L : ∀ j, j ≤ 4 → Ex G Γ mu_TM_isName 4 [some (.int x), some (.int (bI (rall (nmP x) j))), some (.int (nI (8 * j)))] [] [] 0 0 := by
    refine eg_down 4 (fun j hj ih => ?_)
    refine ex_il d_TM_isName_4 rfl ?_
    refine ex_k d_TM_isName_5 ?_
    refine ex_icmp_ge d_TM_isName_7 (fun h7 => ?_) (fun h7 => ?_)
    · skip
      have h7 := le_n (a := 32) h7
      have hj4 : j = 4 := by omega
      subst hj4
      refine ex_il d_TM_isName_50 rfl ?_
      exact ex_iret [] hG d_TM_isName_51 rfl (bI_n _) (by decide) (by decide) (eg_sub.of rfl) ⟨rfl, rfl⟩
    · skip
      have hlt : j < 4 := by have := lt_n (a := 32) h7; omega
      have J : ∀ z : Int32, z = bI (rall (nmP x) (j + 1)) → Ex G Γ mu_TM_isName 43 [some (.int x), some (.int (bI (rall (nmP x) j))), some (.int (nI (8 * j)))] [.int z] [] 0 0 := by
        intro z hz
        subst hz
        refine ex_is d_TM_isName_43 (Nat.le_of_ble_eq_true rfl) ?_
        refine ex_iinc d_TM_isName_44 rfl ?_
        refine ex_goto d_TM_isName_47 ?_
        refine ex_eqL [some (.int x), some (.int (bI (rall (nmP x) (j + 1)))), some (.int (nI (8 * (j + 1))))] (by show [_, _, some (Value.int (nI (8 * j) + nI 8))] = _; rw [nI_add]; rfl) ?_
        exact ih hlt
      refine ex_il d_TM_isName_10 rfl ?_
      refine ex_if_eq d_TM_isName_11 (fun h11 => ?_) (fun h11 => ?_)
      · skip
        refine ex_k d_TM_isName_42 ?_
        exact J _ (by rw [rall_s]; clear J ih hG hR; grind [nmP, bI])
      · skip
        refine ex_il d_TM_isName_14 rfl ?_
        refine ex_il d_TM_isName_15 rfl ?_
        refine ex_ishr d_TM_isName_16 ?_
        refine ex_k d_TM_isName_17 ?_
        refine ex_iand d_TM_isName_20 ?_
        refine ex_k d_TM_isName_21 ?_
        refine ex_icmp_lt d_TM_isName_23 (fun h23 => ?_) (fun h23 => ?_)
        · skip
          refine ex_k d_TM_isName_42 ?_
          exact J _ (by rw [rall_s]; clear J ih hG hR; grind [nmP, bI])
        · skip
          refine ex_il d_TM_isName_26 rfl ?_
          refine ex_il d_TM_isName_27 rfl ?_
          refine ex_ishr d_TM_isName_28 ?_
          refine ex_k d_TM_isName_29 ?_
          refine ex_iand d_TM_isName_32 ?_
          refine ex_k d_TM_isName_33 ?_
          refine ex_icmp_gt d_TM_isName_35 (fun h35 => ?_) (fun h35 => ?_)
          · skip
            refine ex_k d_TM_isName_42 ?_
            exact J _ (by rw [rall_s]; clear J ih hG hR; grind [nmP, bI])
          · skip
            refine ex_k d_TM_isName_38 ?_
            refine ex_goto d_TM_isName_39 ?_
            exact J _ (by rw [rall_s]; clear J ih hG hR; grind [nmP, bI])
  exact L 0 (Nat.zero_le _)
set_option maxRecDepth 100000 in
theorem c_TM_guarded (l : Launch) (G : eg_G) (h : Nat) (q : Nat → Nat) (f : Nat → Int32) (g : Nat → Nat → Int32) (a : Int32) (hse : f 2 = 0 ∨ f 2 = 1) : Ct l G y_TM_guarded 1 0 0 [.ref h, .int a] [TW G h q f g] (rF (some (.int (bI (gdB f g a)))) [TW G h q f g]) := by
  refine Ct.of cd_TM_guarded (eg_catb rfl) (Nat.le_of_ble_eq_true rfl) ?_
  intro Γ hG
  have hR := hG.rm
  show Ex G Γ mu_TM_guarded 0 [some (.ref h), some (.int a), none, none] [] [TW G h q f g] 0 0
  have J : ∀ z : Int32, z = bI (gdB f g a) → Ex G Γ mu_TM_guarded 12 [some (.ref h), some (.int a), none, none] [.int z] [TW G h q f g] 0 0 := by
    intro z hz
    subst hz
    exact ex_iret [TW G h q f g] hG d_TM_guarded_12 rfl (bI_n _) (by decide) (by decide) (eg_sub.of rfl) ⟨rfl, rfl⟩
  have J2 : ∀ z : Int32, z = bI (gdB f g a) → Ex G Γ mu_TM_guarded 24 [some (.ref h), some (.int a), none, none] [.int z] [TW G h q f g] 0 0 := by
    intro z hz
    subst hz
    exact ex_iret [TW G h q f g] hG d_TM_guarded_24 rfl (bI_n _) (by decide) (by decide) (eg_sub.of rfl) ⟨rfl, rfl⟩
  refine ex_il d_TM_guarded_0 rfl ?_
  refine ex_if_lt d_TM_guarded_1 (fun h1 => ?_) (fun h1 => ?_)
  · skip
    refine ex_k d_TM_guarded_11 ?_
    exact J _ (by clear J J2 hG hR; grind [bI, gdB])
  · skip
    refine ex_il d_TM_guarded_4 rfl ?_
    refine ex_k d_TM_guarded_5 ?_
    refine ex_icmp_lt d_TM_guarded_8 (fun h8 => ?_) (fun h8 => ?_)
    · skip
      refine ex_il d_TM_guarded_13 rfl ?_
      refine ex_k d_TM_guarded_14 ?_
      refine ex_icmp_ge d_TM_guarded_17 (fun h17 => ?_) (fun h17 => ?_)
      · skip
        refine ex_k d_TM_guarded_25 ?_
        refine ex_is d_TM_guarded_26 (Nat.le_of_ble_eq_true rfl) ?_
        refine ex_k d_TM_guarded_27 ?_
        refine ex_is d_TM_guarded_28 (Nat.le_of_ble_eq_true rfl) ?_
        have L : ∀ j, j ≤ 12 → Ex G Γ mu_TM_guarded 29 [some (.ref h), some (.int a), some (.int (bI (rany (gdP f g a) j))), some (.int (nI j))] [] [TW G h q f g] 0 0 := by
          refine eg_down 12 (fun j hj ih => ?_)
          refine ex_il d_TM_guarded_29 rfl ?_
          refine ex_k d_TM_guarded_30 ?_
          refine ex_icmp_ge d_TM_guarded_32 (fun h32 => ?_) (fun h32 => ?_)
          · skip
            have h32 := le_n (a := 12) h32
            have hj4 : j = 12 := by omega
            subst hj4
            refine ex_il d_TM_guarded_87 rfl ?_
            exact ex_iret [TW G h q f g] hG d_TM_guarded_88 rfl (bI_n _) (by decide) (by decide) (eg_sub.of rfl) ⟨by rw [gdB, if_neg (by clear J J2 hG hR; grind), if_neg (by clear J J2 hG hR; grind)], rfl⟩
          · skip
            have hlt := lt_n (a := 12) h32
            have J3 : ∀ z : Int32, z = bI (rany (gdP f g a) (j + 1)) → Ex G Γ mu_TM_guarded 80 [some (.ref h), some (.int a), some (.int (bI (rany (gdP f g a) j))), some (.int (nI j))] [.int z] [TW G h q f g] 0 0 := by
              intro z hz
              subst hz
              refine ex_is d_TM_guarded_80 (Nat.le_of_ble_eq_true rfl) ?_
              refine ex_inc d_TM_guarded_81 rfl ?_
              refine ex_goto d_TM_guarded_84 ?_
              exact ih hlt
            refine ex_il d_TM_guarded_35 rfl ?_
            refine ex_if_ne d_TM_guarded_36 (fun h36 => ?_) (fun h36 => ?_)
            · skip
              refine ex_k d_TM_guarded_75 ?_
              refine ex_goto d_TM_guarded_76 ?_
              exact J3 _ (by rw [rany_s]; clear J J2 J3 ih hG hR; grind [gdP, bI])
            · skip
              refine ex_al d_TM_guarded_39 rfl ?_
              refine tg 0 fl_TM_25 d_TM_guarded_40 rfl rfl ?_
              refine ex_il d_TM_guarded_43 rfl ?_
              refine tl_8 0 d_TM_guarded_44 rfl (ix_e hlt) ?_
              refine ex_if_eq d_TM_guarded_45 (fun h45 => ?_) (fun h45 => ?_)
              · skip
                refine ex_k d_TM_guarded_79 ?_
                exact J3 _ (by rw [rany_s]; clear J J2 J3 ih hG hR; grind [gdP, bI])
              · skip
                refine ex_il d_TM_guarded_48 rfl ?_
                refine ex_al d_TM_guarded_49 rfl ?_
                refine tg 0 fl_TM_32 d_TM_guarded_50 rfl rfl ?_
                refine ex_il d_TM_guarded_53 rfl ?_
                refine tl_10 0 d_TM_guarded_54 rfl (ix_e hlt) ?_
                refine ex_icmp_lt d_TM_guarded_55 (fun h55 => ?_) (fun h55 => ?_)
                · skip
                  refine ex_k d_TM_guarded_79 ?_
                  exact J3 _ (by rw [rany_s]; clear J J2 J3 ih hG hR; grind [gdP, bI])
                · skip
                  refine ex_il d_TM_guarded_58 rfl ?_
                  refine ex_al d_TM_guarded_59 rfl ?_
                  refine tg 0 fl_TM_32 d_TM_guarded_60 rfl rfl ?_
                  refine ex_il d_TM_guarded_63 rfl ?_
                  refine tl_10 0 d_TM_guarded_64 rfl (ix_e hlt) ?_
                  refine ex_al d_TM_guarded_65 rfl ?_
                  refine tg 0 fl_TM_38 d_TM_guarded_66 rfl rfl ?_
                  refine ex_il d_TM_guarded_69 rfl ?_
                  refine tl_12 0 d_TM_guarded_70 rfl (ix_e hlt) ?_
                  refine ex_iadd d_TM_guarded_71 ?_
                  refine ex_icmp_ge d_TM_guarded_72 (fun h72 => ?_) (fun h72 => ?_)
                  · skip
                    refine ex_k d_TM_guarded_79 ?_
                    exact J3 _ (by rw [rany_s]; clear J J2 J3 ih hG hR; grind [gdP, bI])
                  · skip
                    refine ex_k d_TM_guarded_75 ?_
                    refine ex_goto d_TM_guarded_76 ?_
                    exact J3 _ (by rw [rany_s]; clear J J2 J3 ih hG hR; grind [gdP, bI])
        exact L 0 (Nat.zero_le _)
      · skip
        refine ex_al d_TM_guarded_20 rfl ?_
        refine tg 0 fl_TM_60 d_TM_guarded_21 rfl rfl ?_
        exact J2 _ (by rw [gdB, if_neg (by clear J J2 hG hR; grind), if_pos (by clear J J2 hG hR; grind), bI_nz hse])
    · skip
      refine ex_k d_TM_guarded_11 ?_
      exact J _ (by clear J J2 hG hR; grind [bI, gdB])
def tmod (g : Nat → Nat → Int32) (x : Int32) : Option Nat := tfind (fun m => decide (¬ g 8 m = 0) && decide (g 9 m = x)) 12
set_option maxRecDepth 100000 in
theorem c_TM_numberOf (l : Launch) (G : eg_G) (h : Nat) (q : Nat → Nat) (f : Nat → Int32) (g : Nat → Nat → Int32) (x : Int32) : Ct l G y_TM_numberOf 1 0 0 [.ref h, .int x] [TW G h q f g] (rF (some (.int (oI (tmod g x)))) [TW G h q f g]) := by
  refine Ct.of cd_TM_numberOf (eg_catb rfl) (Nat.le_of_ble_eq_true rfl) ?_
  intro Γ hG
  have hR := hG.rm
  show Ex G Γ mu_TM_numberOf 0 [some (.ref h), some (.int x), none] [] [TW G h q f g] 0 0
  refine ex_k d_TM_numberOf_0 ?_
  refine ex_is d_TM_numberOf_1 (Nat.le_of_ble_eq_true rfl) ?_
  have L : ∀ j, j ≤ 12 → (∀ i, i < j → (decide (¬ g 8 i = 0) && decide (g 9 i = x)) = false) → Ex G Γ mu_TM_numberOf 2 [some (.ref h), some (.int x), some (.int (nI j))] [] [TW G h q f g] 0 0 := by
    refine eg_down 12 (fun j hj ih hno => ?_)
    have J : ∀ z : Int32, z = oI (tmod g x) → Ex G Γ mu_TM_numberOf 44 [some (.ref h), some (.int x), some (.int (nI j))] [.int z] [TW G h q f g] 0 0 := by
      intro z hz
      subst hz
      exact ex_iret [TW G h q f g] hG d_TM_numberOf_44 rfl rfl (by decide) (by decide) (eg_sub.of rfl) ⟨rfl, rfl⟩
    refine ex_il d_TM_numberOf_2 rfl ?_
    refine ex_k d_TM_numberOf_3 ?_
    refine ex_icmp_ge d_TM_numberOf_5 (fun h5 => ?_) (fun h5 => ?_)
    · skip
      have h5 := le_n (a := 12) h5
      refine ex_il d_TM_numberOf_33 rfl ?_
      refine ex_k d_TM_numberOf_34 ?_
      refine ex_icmp_ge d_TM_numberOf_36 (fun h36 => ?_) (fun h36 => ?_)
      · skip
        have h36 := le_n (a := 12) h36
        refine ex_k d_TM_numberOf_43 ?_
        exact J _ (by rw [tmod, tfind_none (fun i hi => hno i (by omega))]; rfl)
      · skip
        have h36 := lt_n (a := 12) h36
        refine ex_il d_TM_numberOf_39 rfl ?_
        refine ex_goto d_TM_numberOf_40 ?_
        exact absurd h5 (by omega)
    · skip
      have hlt := lt_n (a := 12) h5
      refine ex_al d_TM_numberOf_8 rfl ?_
      refine tg 0 fl_TM_25 d_TM_numberOf_9 rfl rfl ?_
      refine ex_il d_TM_numberOf_12 rfl ?_
      refine tl_8 0 d_TM_numberOf_13 rfl (ix_e (by omega)) ?_
      refine ex_if_eq d_TM_numberOf_14 (fun h14 => ?_) (fun h14 => ?_)
      · skip
        refine ex_inc d_TM_numberOf_27 rfl ?_
        refine ex_goto d_TM_numberOf_30 ?_
        exact ih hlt (fun i hi => by rcases Nat.lt_or_ge i j with z | z; exact hno i z; rw [show i = j by omega]; clear J ih hG hR; grind)
      · skip
        refine ex_al d_TM_numberOf_17 rfl ?_
        refine tg 0 fl_TM_29 d_TM_numberOf_18 rfl rfl ?_
        refine ex_il d_TM_numberOf_21 rfl ?_
        refine tl_9 0 d_TM_numberOf_22 rfl (ix_e (by omega)) ?_
        refine ex_il d_TM_numberOf_23 rfl ?_
        refine ex_icmp_eq d_TM_numberOf_24 (fun h24 => ?_) (fun h24 => ?_)
        · skip
          refine ex_il d_TM_numberOf_33 rfl ?_
          refine ex_k d_TM_numberOf_34 ?_
          refine ex_icmp_ge d_TM_numberOf_36 (fun h36 => ?_) (fun h36 => ?_)
          · skip
            have h36 := le_n (a := 12) h36
            refine ex_k d_TM_numberOf_43 ?_
            exact absurd h36 (by omega)
          · skip
            have h36 := lt_n (a := 12) h36
            refine ex_il d_TM_numberOf_39 rfl ?_
            refine ex_goto d_TM_numberOf_40 ?_
            exact J _ (by rw [tmod, tfind_some (j := j) (by omega) (by clear J ih hG hR; grind) hno]; rfl)
        · skip
          refine ex_inc d_TM_numberOf_27 rfl ?_
          refine ex_goto d_TM_numberOf_30 ?_
          exact ih hlt (fun i hi => by rcases Nat.lt_or_ge i j with z | z; exact hno i z; rw [show i = j by omega]; clear J ih hG hR; grind)
  exact L 0 (Nat.zero_le _) (fun i hi => absurd hi (Nat.not_lt_zero _))
set_option maxRecDepth 100000 in
theorem c_TM_addSymbol (l : Launch) (G : eg_G) (h : Nat) (q : Nat → Nat) (f : Nat → Int32) (g : Nat → Nat → Int32) (u v w x : Int32) (m : Nat) (hm : f 3 = nI m) (hm2 : m < 40) : Ct l G y_TM_addSymbol 1 0 0 [.ref h, .int u, .int v, .int w, .int x] [TW G h q f g] (rF none [TW G h q (va_up f 3 (nI (m + 1))) (va_up (va_up (va_up (va_up g 4 (upd (g 4) m u)) 5 (upd (g 5) m v)) 6 (upd (g 6) m w)) 7 (upd (g 7) m x))]) := by
  refine Ct.of cd_TM_addSymbol (eg_catb rfl) (Nat.le_of_ble_eq_true rfl) ?_
  intro Γ hG
  have hR := hG.rm
  show Ex G Γ mu_TM_addSymbol 0 [some (.ref h), some (.int u), some (.int v), some (.int w), some (.int x)] [] [TW G h q f g] 0 0
  refine ex_al d_TM_addSymbol_0 rfl ?_
  refine tg 0 fl_TM_13 d_TM_addSymbol_1 rfl rfl ?_
  refine ex_al d_TM_addSymbol_4 rfl ?_
  refine tg 0 fl_TM_80 d_TM_addSymbol_5 rfl rfl ?_
  refine ex_il d_TM_addSymbol_8 rfl ?_
  refine ts_4 0 d_TM_addSymbol_9 rfl (ix_e (j := m) hm2 hm) ?_
  refine ex_al d_TM_addSymbol_10 rfl ?_
  refine tg 0 fl_TM_16 d_TM_addSymbol_11 rfl rfl ?_
  refine ex_al d_TM_addSymbol_14 rfl ?_
  refine tg 0 fl_TM_80 d_TM_addSymbol_15 rfl rfl ?_
  refine ex_il d_TM_addSymbol_18 rfl ?_
  refine ts_5 0 d_TM_addSymbol_19 rfl (ix_e (j := m) hm2 hm) ?_
  refine ex_al d_TM_addSymbol_20 rfl ?_
  refine tg 0 fl_TM_19 d_TM_addSymbol_21 rfl rfl ?_
  refine ex_al d_TM_addSymbol_24 rfl ?_
  refine tg 0 fl_TM_80 d_TM_addSymbol_25 rfl rfl ?_
  refine ex_il d_TM_addSymbol_28 rfl ?_
  refine ts_6 0 d_TM_addSymbol_29 rfl (ix_e (j := m) hm2 hm) ?_
  refine ex_al d_TM_addSymbol_30 rfl ?_
  refine tg 0 fl_TM_22 d_TM_addSymbol_31 rfl rfl ?_
  refine ex_al d_TM_addSymbol_34 rfl ?_
  refine tg 0 fl_TM_80 d_TM_addSymbol_35 rfl rfl ?_
  refine ex_il d_TM_addSymbol_38 rfl ?_
  refine ts_7 0 d_TM_addSymbol_40 rfl (ix_e (j := m) hm2 hm) ?_
  refine ex_al d_TM_addSymbol_41 rfl ?_
  refine ex_dup d_TM_addSymbol_42 rfl ?_
  refine tg 0 fl_TM_80 d_TM_addSymbol_43 rfl rfl ?_
  refine ex_k d_TM_addSymbol_46 ?_
  refine ex_iadd d_TM_addSymbol_47 ?_
  refine tp_3 0 wl_TM_80 d_TM_addSymbol_48 rfl ?_
  exact ex_vret [TW G h q (va_up f 3 (f 3 + 1)) (va_up (va_up (va_up (va_up g 4 (upd (g 4) m u)) 5 (upd (g 5) m v)) 6 (upd (g 6) m w)) 7 (upd (g 7) m x))] hG d_TM_addSymbol_51 rfl (by decide) (by decide) (eg_sub.of rfl) ⟨rfl, by rw [hm, nI_1]⟩
def byK (v : Int32) (k : Nat) : Int32 := v >>> (nI (8 * k) &&& 31) &&& 255
/-- so many bytes of v from a on -/
def putB (u : Nat → Int32) (a : Nat) (v : Int32) : Nat → (Nat → Int32)
  | 0 => u
  | n + 1 => upd (putB u a v n) (a + n) (byK v n)
set_option maxRecDepth 100000 in
theorem c_TM_put (l : Launch) (G : eg_G) (h : Nat) (q : Nat → Nat) (f : Nat → Int32) (g : Nat → Nat → Int32) (a : Nat) (v : Int32) (n : Nat) (hn : n ≤ 4) (ha : a + n ≤ 4096) : Ct l G y_TM_put 1 0 0 [.ref h, .int (nI a), .int v, .int (nI n)] [TW G h q f g] (rF none [TW G h q f (va_up g 1 (putB (g 1) a v n))]) := by
  refine Ct.of cd_TM_put (eg_catb rfl) (Nat.le_of_ble_eq_true rfl) ?_
  intro Γ hG
  have hR := hG.rm
  show Ex G Γ mu_TM_put 0 [some (.ref h), some (.int (nI a)), some (.int v), some (.int (nI n)), none] [] [TW G h q f g] 0 0
  refine ex_k d_TM_put_0 ?_
  refine ex_is d_TM_put_1 (Nat.le_of_ble_eq_true rfl) ?_
  have L : ∀ j, j ≤ n → Ex G Γ mu_TM_put 3 [some (.ref h), some (.int (nI a)), some (.int v), some (.int (nI n)), some (.int (nI j))] [] [TW G h q f (va_up g 1 (putB (g 1) a v j))] 0 0 := by
    refine eg_down n (fun j hj ih => ?_)
    refine ex_il d_TM_put_3 rfl ?_
    refine ex_il d_TM_put_5 rfl ?_
    refine ex_icmp_ge d_TM_put_6 (fun h6 => ?_) (fun h6 => ?_)
    · skip
      have h6 := le_n (a := n) h6
      have hjn : j = n := by omega
      subst hjn
      exact ex_vret [TW G h q f (va_up g 1 (putB (g 1) a v j))] hG d_TM_put_35 rfl (by decide) (by decide) (eg_sub.of rfl) ⟨rfl, rfl⟩
    · skip
      have hlt := lt_n (a := n) h6
      refine ex_al d_TM_put_9 rfl ?_
      refine tg 0 fl_TM_7 d_TM_put_10 rfl rfl ?_
      refine ex_il d_TM_put_13 rfl ?_
      refine ex_il d_TM_put_14 rfl ?_
      refine ex_iadd d_TM_put_16 ?_
      refine ex_il d_TM_put_17 rfl ?_
      refine ex_k d_TM_put_18 ?_
      refine ex_il d_TM_put_20 rfl ?_
      refine ex_imul d_TM_put_22 ?_
      refine ex_ishr d_TM_put_23 ?_
      refine ex_k d_TM_put_24 ?_
      refine ex_iand d_TM_put_27 ?_
      refine ts_1 0 d_TM_put_28 rfl (ix_e (j := a + j) (by omega) (nI_add a j)) ?_
      refine ex_eqS [TW G h q f (va_up g 1 (putB (g 1) a v (j + 1)))] (by show [TW G h q f (va_up (va_up g 1 _) 1 _)] = _; rw [bx_uu]; rw [show putB (g 1) a v (j + 1) = upd (putB (g 1) a v j) (a + j) (byK v j) from rfl, byK, ← pk_mul]; rfl) ?_
      refine ex_inc d_TM_put_29 rfl ?_
      refine ex_goto d_TM_put_32 ?_
      exact ih hlt
  exact ex_eqS [TW G h q f (va_up g 1 (putB (g 1) a v 0))] (by rw [show va_up g 1 (putB (g 1) a v 0) = g from funext fun z => by by_cases e : z = 1; rw [e]; rfl; exact if_neg e]) (L 0 (Nat.zero_le _))
