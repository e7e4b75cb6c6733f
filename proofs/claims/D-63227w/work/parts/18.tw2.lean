/-! THE TWIN, 2 -/
theorem ne_t {x : Int32} {k : Nat} (hk : k < 2 ^ 31) (h : ¬ x = nI k) : ¬ x.toInt = (k : Int) := by
  intro z
  exact h (Int32.toInt_inj.mp (by rw [z, nI_toInt hk]))
theorem isWd_of {a : Int32} {E : Nat} (hE : E < 2 ^ 31) (h : isWd a (nI E) = true) : ∃ j : Nat, j < E ∧ a = nI j ∧ j % 4 = 0 := by
  simp only [isWd, Bool.and_eq_true, decide_eq_true_eq] at h
  obtain ⟨⟨h1, h2⟩, h3⟩ := h
  obtain ⟨j, hj, rfl⟩ := nI_of (x := a) (by grind)
  have hjE := (nI_ltI hj hE).mp h2
  refine ⟨j, hjE, rfl, ?_⟩
  have e := pk_rem (a := j) (d := 4) hj (by decide) (by decide)
  rw [show (nI 4 : Int32) = 4 from rfl, h3] at e
  exact ((nI_eq (a := 0) (b := j % 4) (by decide) (by omega)).mp e).symm
def pokT (f : Nat → Int32) (a : Int32) : Int32 := if isWd a 512 = true then (if f 2 = 0 then 0 else 2) else 1
def pokG (f : Nat → Int32) (g : Nat → Nat → Int32) (a w : Int32) : Nat → Nat → Int32 := if pokT f a = 0 then va_up g 1 (putB (g 1) a.toNatClampNeg w 4) else g
def pekT (a : Int32) : Int32 := if isWd a 4096 = true then 0 else 1
def pekR (g : Nat → Nat → Int32) (a : Int32) : Int32 := if isWd a 4096 = true then wdA (g 1) a.toNatClampNeg else 0
set_option maxRecDepth 100000 in
theorem c_TM_isProtected (l : Launch) (G : eg_G) (h : Nat) (q : Nat → Nat) (f : Nat → Int32) (g : Nat → Nat → Int32) (a : Int32) (hse : f 2 = 0 ∨ f 2 = 1) : Ct l G y_TM_isProtected 2 0 0 [.ref h, .int a] [TW G h q f g] (rF (some (.int (bI (gdB f g a)))) [TW G h q (va_up f 0 0) g]) := by
  refine Ct.of cd_TM_isProtected (eg_catb rfl) (Nat.le_of_ble_eq_true rfl) ?_
  intro Γ hG
  have hR := hG.rm
  show Ex G Γ mu_TM_isProtected 0 [some (.ref h), some (.int a)] [] [TW G h q f g] 0 0
  refine ex_al d_TM_isProtected_0 rfl ?_
  refine ex_k d_TM_isProtected_1 ?_
  refine tp_0 0 wl_TM_57 d_TM_isProtected_2 rfl ?_
  refine ex_al d_TM_isProtected_5 rfl ?_
  refine ex_il d_TM_isProtected_6 rfl ?_
  refine ex_cF [0] hR (c_TM_guarded l G h q (va_up f 0 0) g a hse) (eg_invV 0 d_TM_isProtected_7 cd_TM_guarded cx_TM_64 rfl rfl List.mem_cons_self rfl rfl) cd_TM_guarded rfl rfl (Nat.le_of_ble_eq_true rfl) (by decide) (by decide) (by decide) (by decide) rfl ?_
  exact ex_iret [TW G h q (va_up f 0 0) g] hG d_TM_isProtected_10 rfl (bI_n _) (by decide) (by decide) (eg_sub.of rfl) ⟨rfl, rfl⟩
set_option maxRecDepth 100000 in
theorem c_TM_poke (l : Launch) (G : eg_G) (h : Nat) (q : Nat → Nat) (f : Nat → Int32) (g : Nat → Nat → Int32) (a w : Int32) : Ct l G y_TM_poke 2 0 0 [.ref h, .int a, .int w] [TW G h q f g] (rF none [TW G h q (va_up f 0 (pokT f a)) (pokG f g a w)]) := by
  refine Ct.of cd_TM_poke (eg_catb rfl) (Nat.le_of_ble_eq_true rfl) ?_
  intro Γ hG
  have hR := hG.rm
  show Ex G Γ mu_TM_poke 0 [some (.ref h), some (.int a), some (.int w)] [] [TW G h q f g] 0 0
  have J : ∀ z : Int32, z = pokT f a → Ex G Γ mu_TM_poke 27 [some (.ref h), some (.int a), some (.int w)] [.int z, .ref h] [TW G h q f g] 0 0 := by
    intro z hz
    subst hz
    refine tp_0 0 wl_TM_57 d_TM_poke_27 rfl ?_
    refine ex_al d_TM_poke_30 rfl ?_
    refine tg 0 fl_TM_57 d_TM_poke_31 rfl rfl ?_
    refine ex_if_ne d_TM_poke_34 (fun h34 => ?_) (fun h34 => ?_)
    · skip
      have h34 : ¬ pokT f a = 0 := h34
      exact ex_vret [TW G h q (va_up f 0 (pokT f a)) g] hG d_TM_poke_44 rfl (by decide) (by decide) (eg_sub.of rfl) ⟨rfl, by rw [pokG, if_neg h34]⟩
    · skip
      have h34 : pokT f a = 0 := h34
      obtain ⟨j, hj, rfl, -⟩ := isWd_of (E := 512) (by decide) (show isWd a (nI 512) = true by clear hG hR; have e512 : nI 512 = 512 := rfl; grind [pokT])
      refine ex_al d_TM_poke_37 rfl ?_
      refine ex_il d_TM_poke_38 rfl ?_
      refine ex_il d_TM_poke_39 rfl ?_
      refine ex_k d_TM_poke_40 ?_
      refine ex_cV [0] hR (c_TM_put l G h q (va_up f 0 (pokT f (nI j))) g j w 4 (by decide) (by omega)) (eg_invV 0 d_TM_poke_41 cd_TM_put cx_TM_72 rfl rfl List.mem_cons_self rfl rfl) cd_TM_put rfl rfl (Nat.le_of_ble_eq_true rfl) (by decide) (by decide) (by decide) (by decide) rfl ?_
      exact ex_vret _ hG d_TM_poke_44 rfl (by decide) (by decide) (eg_sub.of rfl) ⟨rfl, by rw [pokG, if_pos h34, nI_clamp (by omega)]; rfl⟩
  refine ex_al d_TM_poke_0 rfl ?_
  refine ex_il d_TM_poke_1 rfl ?_
  refine ex_k d_TM_poke_2 ?_
  refine ex_cP hR (c_TM_isWord l G _ _) (eg_invS d_TM_poke_5 cd_TM_isWord cx_TM_68 rfl rfl) cd_TM_isWord (Nat.le_of_ble_eq_true rfl) (by decide) (by decide) (by decide) (by decide) rfl ?_
  refine ex_if_ne d_TM_poke_8 (fun h8 => ?_) (fun h8 => ?_)
  · skip
    refine ex_al d_TM_poke_15 rfl ?_
    refine tg 0 fl_TM_60 d_TM_poke_16 rfl rfl ?_
    refine ex_if_eq d_TM_poke_19 (fun h19 => ?_) (fun h19 => ?_)
    · skip
      refine ex_k d_TM_poke_26 ?_
      exact J _ (by clear J hG hR; grind [pokT, bI])
    · skip
      refine ex_k d_TM_poke_22 ?_
      refine ex_goto d_TM_poke_23 ?_
      exact J _ (by clear J hG hR; grind [pokT, bI])
  · skip
    refine ex_k d_TM_poke_11 ?_
    refine ex_goto d_TM_poke_12 ?_
    exact J _ (by clear J hG hR; grind [pokT, bI])
set_option maxRecDepth 100000 in
theorem c_TM_peek (l : Launch) (G : eg_G) (h : Nat) (q : Nat → Nat) (f : Nat → Int32) (g : Nat → Nat → Int32) (a : Int32) : Ct l G y_TM_peek 2 0 0 [.ref h, .int a] [TW G h q f g] (rF (some (.int (pekR g a))) [TW G h q (va_up f 0 (pekT a)) g]) := by
  refine Ct.of cd_TM_peek (eg_catb rfl) (Nat.le_of_ble_eq_true rfl) ?_
  intro Γ hG
  have hR := hG.rm
  show Ex G Γ mu_TM_peek 0 [some (.ref h), some (.int a)] [] [TW G h q f g] 0 0
  have J : ∀ z : Int32, z = pekT a → Ex G Γ mu_TM_peek 16 [some (.ref h), some (.int a)] [.int z, .ref h] [TW G h q f g] 0 0 := by
    intro z hz
    subst hz
    have J2 : ∀ z : Int32, z = pekR g a → Ex G Γ mu_TM_peek 35 [some (.ref h), some (.int a)] [.int z] [TW G h q (va_up f 0 (pekT a)) g] 0 0 := by
      intro z hz
      subst hz
      exact ex_iret [TW G h q (va_up f 0 (pekT a)) g] hG d_TM_peek_35 rfl rfl (by decide) (by decide) (eg_sub.of rfl) ⟨rfl, rfl⟩
    refine tp_0 0 wl_TM_57 d_TM_peek_16 rfl ?_
    refine ex_al d_TM_peek_19 rfl ?_
    refine tg 0 fl_TM_57 d_TM_peek_20 rfl rfl ?_
    refine ex_if_ne d_TM_peek_23 (fun h23 => ?_) (fun h23 => ?_)
    · skip
      have h23 : ¬ pekT a = 0 := h23
      refine ex_k d_TM_peek_34 ?_
      exact J2 _ (by clear J2 hG hR; grind [pekR, pekT])
    · skip
      have h23 : pekT a = 0 := h23
      have hw : isWd a 4096 = true := by clear J2 hG hR; grind [pekT]
      obtain ⟨j, hj, rfl, hj4⟩ := isWd_of (E := 4096) (by decide) (show isWd a (nI 4096) = true from hw)
      refine ex_al d_TM_peek_26 rfl ?_
      refine ex_il d_TM_peek_27 rfl ?_
      refine ex_cF [0] hR (c_TM_wordAt l G h q (va_up f 0 (pekT (nI j))) g j (by omega)) (eg_invV 0 d_TM_peek_28 cd_TM_wordAt cx_TM_76 rfl rfl List.mem_cons_self rfl rfl) cd_TM_wordAt rfl rfl (Nat.le_of_ble_eq_true rfl) (by decide) (by decide) (by decide) (by decide) rfl ?_
      refine ex_goto d_TM_peek_31 ?_
      exact J2 _ (by rw [pekR, if_pos hw, nI_clamp (by omega)])
  refine ex_al d_TM_peek_0 rfl ?_
  refine ex_il d_TM_peek_1 rfl ?_
  refine ex_k d_TM_peek_2 ?_
  refine ex_cP hR (c_TM_isWord l G _ _) (eg_invS d_TM_peek_5 cd_TM_isWord cx_TM_68 rfl rfl) cd_TM_isWord (Nat.le_of_ble_eq_true rfl) (by decide) (by decide) (by decide) (by decide) rfl ?_
  refine ex_if_eq d_TM_peek_8 (fun h8 => ?_) (fun h8 => ?_)
  · skip
    refine ex_k d_TM_peek_15 ?_
    exact J _ (by clear J hG hR; grind [pekT, bI])
  · skip
    refine ex_k d_TM_peek_11 ?_
    refine ex_goto d_TM_peek_12 ?_
    exact J _ (by clear J hG hR; grind [pekT, bI])
set_option maxRecDepth 100000 in
theorem c_TM_seal (l : Launch) (G : eg_G) (h : Nat) (q : Nat → Nat) (f : Nat → Int32) (g : Nat → Nat → Int32) : Ct l G y_TM_seal 1 0 0 [.ref h] [TW G h q f g] (rF (some (.int (bI (decide (f 2 = 0))))) [TW G h q (va_up (va_up f 0 0) 2 1) g]) := by
  refine Ct.of cd_TM_seal (eg_catb rfl) (Nat.le_of_ble_eq_true rfl) ?_
  intro Γ hG
  have hR := hG.rm
  show Ex G Γ mu_TM_seal 0 [some (.ref h), none] [] [TW G h q f g] 0 0
  refine ex_al d_TM_seal_0 rfl ?_
  refine ex_k d_TM_seal_1 ?_
  refine tp_0 0 wl_TM_57 d_TM_seal_2 rfl ?_
  refine ex_al d_TM_seal_5 rfl ?_
  refine tg 0 fl_TM_60 d_TM_seal_6 rfl rfl ?_
  refine ex_is d_TM_seal_9 (Nat.le_of_ble_eq_true rfl) ?_
  refine ex_al d_TM_seal_10 rfl ?_
  refine ex_k d_TM_seal_11 ?_
  refine ex_eqT [.int (bI true), .ref h] rfl ?_
  refine tp_2 0 wl_TM_60 d_TM_seal_12 rfl ?_
  refine ex_il d_TM_seal_15 rfl ?_
  have J : ∀ z : Int32, z = bI (decide (f 2 = 0)) → Ex G Γ mu_TM_seal 24 [some (.ref h), some (.int (f 2))] [.int z] [TW G h q (va_up (va_up f 0 0) 2 1) g] 0 0 := by
    intro z hz
    subst hz
    exact ex_iret [TW G h q (va_up (va_up f 0 0) 2 1) g] hG d_TM_seal_24 rfl (bI_n _) (by decide) (by decide) (eg_sub.of rfl) ⟨rfl, rfl⟩
  refine ex_if_ne d_TM_seal_16 (fun h16 => ?_) (fun h16 => ?_)
  · skip
    have h16 : ¬ f 2 = 0 := h16
    refine ex_k d_TM_seal_23 ?_
    exact J _ (by clear J hG hR; grind [bI])
  · skip
    have h16 : f 2 = 0 := h16
    refine ex_k d_TM_seal_19 ?_
    refine ex_goto d_TM_seal_20 ?_
    exact J _ (by clear J hG hR; grind [bI])
def symT (f : Nat → Int32) (g : Nat → Nat → Int32) (m : Nat) (x : Int32) : Int32 := if nmB x = true then (if (tsym g m x).isSome = true ∨ m = 40 then 2 else 0) else 1
def addG (g : Nat → Nat → Int32) (m : Nat) (u v w x : Int32) : Nat → Nat → Int32 := va_up (va_up (va_up (va_up g 4 (upd (g 4) m u)) 5 (upd (g 5) m v)) 6 (upd (g 6) m w)) 7 (upd (g 7) m x)
theorem oI_ge {r : Option Nat} (h : ∀ k, r = some k → k < 2 ^ 31) : 0 ≤ oI r ↔ r.isSome = true := by
  cases r with
  | none => simp [oI]
  | some k => simpa [oI] using nI_pos' (h k rfl)
theorem tfind_lt {p : Nat → Bool} {n k : Nat} (h : tfind p n = some k) : k < n ∧ p k = true ∧ ∀ i, i < k → p i = false := by
  unfold tfind at h
  rw [List.find?_range_eq_some] at h
  exact ⟨List.mem_range.mp h.2.1, h.1, fun i hi => by simpa using h.2.2 i hi⟩
theorem tsym_ge {g : Nat → Nat → Int32} {m : Nat} {x : Int32} (hm : m ≤ 40) : 0 ≤ oI (tsym g m x) ↔ (tsym g m x).isSome = true := oI_ge (fun k hk => by have := (tfind_lt hk).1; omega)
set_option maxRecDepth 100000 in
theorem c_TM_symbol (l : Launch) (G : eg_G) (h : Nat) (q : Nat → Nat) (f : Nat → Int32) (g : Nat → Nat → Int32) (x v w : Int32) (m : Nat) (hm : f 3 = nI m) (hm2 : m ≤ 40) : Ct l G y_TM_symbol 2 0 0 [.ref h, .int x, .int v, .int w] [TW G h q f g] (rF none [TW G h q (if symT f g m x = 0 then va_up (va_up f 0 0) 3 (nI (m + 1)) else va_up f 0 (symT f g m x)) (if symT f g m x = 0 then addG g m x v w (-1) else g)]) := by
  refine Ct.of cd_TM_symbol (eg_catb rfl) (Nat.le_of_ble_eq_true rfl) ?_
  intro Γ hG
  have hR := hG.rm
  show Ex G Γ mu_TM_symbol 0 [some (.ref h), some (.int x), some (.int v), some (.int w)] [] [TW G h q f g] 0 0
  have J : ∀ z : Int32, z = symT f g m x → Ex G Γ mu_TM_symbol 34 [some (.ref h), some (.int x), some (.int v), some (.int w)] [.int z, .ref h] [TW G h q f g] 0 0 := by
    intro z hz
    subst hz
    refine tp_0 0 wl_TM_57 d_TM_symbol_34 rfl ?_
    refine ex_al d_TM_symbol_37 rfl ?_
    refine tg 0 fl_TM_57 d_TM_symbol_38 rfl rfl ?_
    refine ex_if_ne d_TM_symbol_41 (fun h41 => ?_) (fun h41 => ?_)
    · skip
      have h41 : ¬ symT f g m x = 0 := h41
      exact ex_vret [TW G h q (va_up f 0 (symT f g m x)) g] hG d_TM_symbol_52 rfl (by decide) (by decide) (eg_sub.of rfl) ⟨rfl, by rw [if_neg h41, if_neg h41]⟩
    · skip
      have h41 : symT f g m x = 0 := h41
      refine ex_al d_TM_symbol_44 rfl ?_
      refine ex_il d_TM_symbol_45 rfl ?_
      refine ex_il d_TM_symbol_46 rfl ?_
      refine ex_il d_TM_symbol_47 rfl ?_
      refine ex_k d_TM_symbol_48 ?_
      refine ex_cV [0] hR (c_TM_addSymbol l G h q (va_up f 0 (symT f g m x)) g x v w (-1) m hm (by clear hG hR; grind [symT])) (eg_invV 0 d_TM_symbol_49 cd_TM_addSymbol cx_TM_89 rfl rfl List.mem_cons_self rfl rfl) cd_TM_addSymbol rfl rfl (Nat.le_of_ble_eq_true rfl) (by decide) (by decide) (by decide) (by decide) rfl ?_
      exact ex_vret _ hG d_TM_symbol_52 rfl (by decide) (by decide) (eg_sub.of rfl) ⟨rfl, by rw [if_pos h41, if_pos h41, ← h41]; rfl⟩
  refine ex_al d_TM_symbol_0 rfl ?_
  refine ex_il d_TM_symbol_1 rfl ?_
  refine ex_cP hR (c_TM_isName l G x) (eg_invS d_TM_symbol_2 cd_TM_isName cx_TM_83 rfl rfl) cd_TM_isName (Nat.le_of_ble_eq_true rfl) (by decide) (by decide) (by decide) (by decide) rfl ?_
  refine ex_if_ne d_TM_symbol_5 (fun h5 => ?_) (fun h5 => ?_)
  · skip
    refine ex_al d_TM_symbol_12 rfl ?_
    refine ex_il d_TM_symbol_13 rfl ?_
    refine ex_cF [0] hR (c_TM_find l G h q f g x m hm hm2) (eg_invV 0 d_TM_symbol_14 cd_TM_find cx_TM_86 rfl rfl List.mem_cons_self rfl rfl) cd_TM_find rfl rfl (Nat.le_of_ble_eq_true rfl) (by decide) (by decide) (by decide) (by decide) rfl ?_
    refine ex_if_ge d_TM_symbol_17 (fun h17 => ?_) (fun h17 => ?_)
    · skip
      have h17 := (tsym_ge hm2).mp h17
      refine ex_k d_TM_symbol_29 ?_
      refine ex_goto d_TM_symbol_30 ?_
      exact J _ (by clear J hG hR; grind [symT, bI])
    · skip
      have h17 : ¬ (tsym g m x).isSome = true := fun z => h17 ((tsym_ge hm2).mpr z)
      refine ex_al d_TM_symbol_20 rfl ?_
      refine tg 0 fl_TM_80 d_TM_symbol_21 rfl rfl ?_
      refine ex_k d_TM_symbol_24 ?_
      refine ex_icmp_ne d_TM_symbol_26 (fun h26 => ?_) (fun h26 => ?_)
      · skip
        have h26 : ¬ m = 40 := fun z => h26 (by rw [hm, z]; rfl)
        refine ex_k d_TM_symbol_33 ?_
        exact J _ (by clear J hG hR; grind [symT, bI])
      · skip
        have h26 : m = 40 := (nI_eq (by omega) (by decide)).mp (hm.symm.trans h26)
        refine ex_k d_TM_symbol_29 ?_
        refine ex_goto d_TM_symbol_30 ?_
        exact J _ (by clear J hG hR; grind [symT, bI])
  · skip
    refine ex_k d_TM_symbol_8 ?_
    refine ex_goto d_TM_symbol_9 ?_
    exact J _ (by clear J hG hR; grind [symT, bI])
