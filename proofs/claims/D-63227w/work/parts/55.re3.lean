/-! THE READER, 3: offset; a new reader; needs of a module -/
def offB (b : Bool) (w : Int32) (L : Nat) : Bool := (b && decide (w = -1)) || isWd w (nI L)
def IMG (G : eg_G) (ia N : Nat) (f : Nat → Int32) : va_W := [(ia, .inl (eg_c G 2, N, .inl f))]
theorem eg_sk3 {A B C : va_W} : eg_sub ([([] : va_W), B, []].flatten) ([A, B, C].flatten) := ⟨A ++ C, by
  simp
  rw [← List.append_assoc, ← List.append_assoc]
  exact List.perm_append_comm.append_right _⟩
set_option maxRecDepth 100000 in
theorem c_Re_offset (l : Launch) (G : eg_G) (ro tp t p ia N : Nat) (ini exi gua : Int32) (la lb lc : Nat) (T f : Nat → Int32) (hTb : ∀ i, T i &&& 255 = T i) (ht : t ≤ 1200) (hp : p ≤ t) (hN : N ≤ 128) (b : Bool) : Ct l G y_Re_offset 8 2 12 [.ref ro, .int (bI b)] [RO ro tp t p (.ref ia) ini exi gua la lb lc, TP G tp T, IMG G ia N f] (rC (p + 4 ≤ t ∧ (offB b (wdA T p) (4 * N)) = true) (some (.int (wdA T p))) [RO ro tp t (p + 4) (.ref ia) ini exi gua la lb lc, TP G tp T, IMG G ia N f] x_IAE [[], TP G tp T, []]) := by
  refine Ct.of cd_Re_offset (eg_catb rfl) (Nat.le_of_ble_eq_true rfl) ?_
  intro Γ hG
  have hR := hG.rm
  show Ex G Γ mu_Re_offset 0 [some (.ref ro), some (.int (bI b)), none] [] [RO ro tp t p (.ref ia) ini exi gua la lb lc, TP G tp T, IMG G ia N f] 0 0
  refine ex_al d_Re_offset_0 rfl ?_
  refine ex_cCF [0, 1] hR (c_Re_word l G ro tp t p (.ref ia) ini exi gua la lb lc T hTb ht hp) (eg_invV 0 d_Re_offset_1 cd_Re_word cx_Re_42 rfl rfl List.mem_cons_self rfl rfl) cd_Re_word rfl rfl (Nat.le_of_ble_eq_true rfl) (by decide) (by decide) (by decide) (by decide) rfl (fun hc => ?_) (fun hc => ?_)
  rotate_left
  · exact ext_leave [[], TP G tp T, []] hG (fun _ h => absurd h List.not_mem_nil) (by decide) (by decide) (eg_sk3 (A := [])) (Or.inr ⟨fun z => hc z.1, rfl, rfl⟩)
  refine ex_eqS [RO ro tp t (p + 4) (.ref ia) ini exi gua la lb lc, TP G tp T, IMG G ia N f] rfl ?_
  refine ex_is d_Re_offset_4 (Nat.le_of_ble_eq_true rfl) ?_
  refine ex_al d_Re_offset_5 rfl ?_
  generalize hw : wdA T p = w at *
  have J : ∀ z : Int32, z = bI (offB b w (4 * N)) → Ex G Γ mu_Re_offset 41 [some (.ref ro), some (.int (bI b)), some (.int w)] [.int z, .ref ro] [RO ro tp t (p + 4) (.ref ia) ini exi gua la lb lc, TP G tp T, IMG G ia N f] 1 6 := by
    intro z hz
    subst hz
    refine ex_cCV [] hR (c_Re_need l G ro (offB b w (4 * N))) (eg_invV 0 d_Re_offset_41 cd_Re_need cx_Re_38 rfl rfl List.mem_cons_self rfl rfl) cd_Re_need rfl rfl (Nat.le_of_ble_eq_true rfl) (by decide) (by decide) (by decide) (by decide) rfl (fun hb => ?_) (fun hb => ?_)
    rotate_left
    · exact ext_leave [[], TP G tp T, []] hG (fun _ h => absurd h List.not_mem_nil) (by decide) (by decide) eg_sk3 (Or.inr ⟨fun z => hb z.2, rfl, rfl⟩)
    refine ex_eqS [RO ro tp t (p + 4) (.ref ia) ini exi gua la lb lc, TP G tp T, IMG G ia N f] rfl ?_
    refine ex_il d_Re_offset_44 rfl ?_
    exact ex_iret [RO ro tp t (p + 4) (.ref ia) ini exi gua la lb lc, TP G tp T, IMG G ia N f] hG d_Re_offset_45 rfl rfl (by decide) (by decide) (eg_sub.of rfl) (Or.inl ⟨⟨hc, hb⟩, rfl, rfl⟩)
  have J15 : (b && decide (w = -1)) = false → Ex G Γ mu_Re_offset 15 [some (.ref ro), some (.int (bI b)), some (.int w)] [.ref ro] [RO ro tp t (p + 4) (.ref ia) ini exi gua la lb lc, TP G tp T, IMG G ia N f] 1 6 := by
    intro hbw
    have hob : offB b w (4 * N) = isWd w (nI (4 * N)) := by rw [offB, hbw, Bool.false_or]
    rw [hob] at J
    refine ex_il d_Re_offset_15 rfl ?_
    refine ex_if_lt d_Re_offset_16 (fun z => ?_) (fun z => ?_)
    · refine ex_k d_Re_offset_40 ?_
      exact J _ (by rw [isWd, decide_eq_false (p := 0 ≤ w) (Int32.not_le.mpr z)]; rfl)
    refine ex_il d_Re_offset_19 rfl ?_
    refine ex_k d_Re_offset_20 ?_
    refine ex_al d_Re_offset_21 rfl ?_
    refine ex_get1 0 fl_Re_50 d_Re_offset_22 rfl rfl ?_
    refine ex_alen 2 d_Re_offset_25 rfl List.mem_cons_self rfl ?_
    refine ex_imul d_Re_offset_26 ?_
    refine ex_eqT [.int (nI (4 * N)), .int w, .ref ro] (by rw [← pk_mul]; rfl) ?_
    refine ex_icmp_ge d_Re_offset_27 (fun z2 => ?_) (fun z2 => ?_)
    · refine ex_k d_Re_offset_40 ?_
      exact J _ (by rw [isWd, decide_eq_false (p := w < nI (4 * N)) (Int32.not_lt.mpr z2), Bool.and_false]; rfl)
    refine ex_il d_Re_offset_30 rfl ?_
    refine ex_k d_Re_offset_31 ?_
    refine ex_irem d_Re_offset_32 (by decide) ?_
    refine ex_if_ne d_Re_offset_33 (fun z3 => ?_) (fun z3 => ?_)
    · refine ex_k d_Re_offset_40 ?_
      exact J _ (by rw [isWd, decide_eq_false (p := w - w / 4 * 4 = 0) z3, Bool.and_false]; rfl)
    refine ex_k d_Re_offset_36 ?_
    refine ex_goto d_Re_offset_37 ?_
    exact J _ (by rw [isWd, decide_eq_true (Int32.not_lt.mp z), decide_eq_true (Int32.not_le.mp z2), decide_eq_true (show w - w / 4 * 4 = 0 from z3)]; rfl)
  refine ex_il d_Re_offset_6 rfl ?_
  refine ex_if_eq d_Re_offset_7 (fun z => ?_) (fun z => ?_)
  · exact J15 (by rw [bI_0.mp z]; rfl)
  · have hb : b = true := by cases b; exact absurd rfl z; rfl
    refine ex_il d_Re_offset_10 rfl ?_
    refine ex_k d_Re_offset_11 ?_
    refine ex_icmp_eq d_Re_offset_12 (fun z2 => ?_) (fun z2 => ?_)
    · refine ex_k d_Re_offset_36 ?_
      refine ex_goto d_Re_offset_37 ?_
      exact J _ (by rw [offB, hb, decide_eq_true (p := w = -1) z2]; rfl)
    · exact J15 (by rw [hb, decide_eq_false (p := w = -1) z2]; rfl)
