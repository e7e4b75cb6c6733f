/-! THE SYMBOLS, 1 -/
def syC (e : sE) : Nat × ((ClassId × vp_A) ⊕ (Nat × List Value)) := (e.1, .inr (9, [.int e.2.1, .int e.2.2.1, .int e.2.2.2.1, va_rf e.2.2.2.2]))
def SO (so pl gn : Nat) (many marks : Int32) : va_W := [(so, .inr (8, [.ref pl, .ref gn, .int many, .int marks]))]
def SPl (G : eg_G) (pl : Nat) (F : Nat → Option Nat) : va_W := [(pl, .inl (eg_c G 5, 64, .inr (.inr (.inr (.inr F)))))]
def SG (gn : Nat) : va_W := [(gn, .inr (9, [.int 0, .int 0, .int 0, .null]))]
theorem ex_nd {G : eg_G} {Γ : eg_C} {μ : eg_M} {pc n k : Nat} {lv : List (Option Value)} {st : List Value} {S : eg_S} (kk : (S.flatten.map Prod.fst).Nodup → Ex G Γ μ pc lv st S n k) : Ex G Γ μ pc lv st S n k := by
  obtain ⟨p, l, e, R, s, m, args, below, meth, c, A, Q⟩ := Γ
  intro ok H locs ls cells slots h1 h2 hl hP hD hS
  exact kk (eg_D_iff.mp hD).1 ok H locs ls cells slots h1 h2 hl hP hD hS
theorem nx64 {p h j : Nat} (hp : p = (h + j) % 64) : nI p + 1 - (nI p + 1) / 64 * 64 = nI ((h + (j + 1)) % 64) := by
  have hl : p < 64 := by rw [hp]; exact Nat.mod_lt _ (by decide)
  rw [nI_1]
  show nI (p + 1) - nI (p + 1) / nI 64 * nI 64 = _
  rw [pk_rem (by omega) (by decide) (by decide)]
  congr 1
  omega
set_option maxRecDepth 100000 in
theorem c_Ss_first (l : Launch) (G : eg_G) (x : Int32) : Ct l G y_Ss_first 1 0 0 [.int x] [] (rF (some (.int (fsI x))) []) := by
  refine Ct.of cd_Ss_first (eg_catb rfl) (Nat.le_of_ble_eq_true rfl) ?_
  intro Γ hG
  have hR := hG.rm
  show Ex G Γ mu_Ss_first 0 [some (.int x)] [] [] 0 0
  refine ex_il d_Ss_first_0 rfl ?_
  refine ex_k d_Ss_first_1 ?_
  refine ex_imul d_Ss_first_3 ?_
  refine ex_k d_Ss_first_4 ?_
  refine ex_iushr d_Ss_first_6 ?_
  exact ex_iret [] hG d_Ss_first_7 rfl rfl (by decide) (by decide) (eg_sub.of rfl) ⟨rfl, rfl⟩
set_option maxRecDepth 100000 in
theorem c_Ss_find (l : Launch) (G : eg_G) (so pl gn : Nat) (many marks : Int32) (F : Nat → Option Nat) (L : List sE) (PS : va_W) (hT : TB F gn L) (hPS : ∀ e ∈ L, syC e ∈ PS) (hN : (L.map (fun e => e.2.1)).Nodup) (x : Int32) : Ct l G y_Ss_find 2 0 0 [.ref so, .int x] [SO so pl gn many marks, SPl G pl F, SG gn, PS] (rF (some (va_rf ((sfind L x).map (fun e => e.1)))) [SO so pl gn many marks, SPl G pl F, SG gn, PS]) := by
  refine Ct.of cd_Ss_find (eg_catb rfl) (Nat.le_of_ble_eq_true rfl) ?_
  intro Γ hG
  have hR := hG.rm
  show Ex G Γ mu_Ss_find 0 [some (.ref so), some (.int x), none, none, none] [] [SO so pl gn many marks, SPl G pl F, SG gn, PS] 0 0
  refine ex_il d_Ss_find_0 rfl ?_
  refine ex_cP hR (c_Ss_first l G x) (eg_invS d_Ss_find_1 cd_Ss_first cx_Ss_25 rfl rfl) cd_Ss_first (Nat.le_of_ble_eq_true rfl) (by decide) (by decide) (by decide) (by decide) rfl ?_
  obtain ⟨hf1, hf2⟩ := fsI_e x
  refine ex_eqT [.int (nI (fsN x))] (by rw [hf2]) ?_
  refine ex_is d_Ss_find_4 (Nat.le_of_ble_eq_true rfl) ?_
  refine ex_k d_Ss_find_5 ?_
  refine ex_is d_Ss_find_6 (Nat.le_of_ble_eq_true rfl) ?_
  have LL : ∀ j, j ≤ 64 → (∀ d, d < j → F ((fsN x + d) % 64) ≠ none ∧ ∀ e ∈ L, F ((fsN x + d) % 64) = some e.1 → e.2.1 ≠ x) → Ex G Γ mu_Ss_find 7 [some (.ref so), some (.int x), some (.int (nI ((fsN x + j) % 64))), some (.int (nI j)), none] [] [SO so pl gn many marks, SPl G pl F, SG gn, PS] 0 0 := by
    refine eg_down 64 (fun j hj ih hno => ?_)
    refine ex_il d_Ss_find_7 rfl ?_
    refine ex_k d_Ss_find_8 ?_
    refine ex_icmp_ge d_Ss_find_10 (fun h10 => ?_) (fun h10 => ?_)
    · skip
      have h10 := le_n (a := 64) h10
      have hsn : sfind L x = none := sfind_none (fun e he hx => by
        obtain ⟨d, hd, h2, -⟩ := hT.2.2 e he
        rw [hx] at h2
        exact (hno d (by omega)).2 e he h2 hx)
      refine ex_null d_Ss_find_62 ?_
      exact ex_aret [SO so pl gn many marks, SPl G pl F, SG gn, PS] (r := none) hG d_Ss_find_63 rfl (Or.inl ⟨_, rfl⟩) (by decide) (by decide) (eg_sub.of rfl) ⟨by rw [hsn]; rfl, rfl⟩
    · skip
      have hlt := lt_n (a := 64) h10
      have hp : (fsN x + j) % 64 < 64 := Nat.mod_lt _ (by decide)
      refine ex_al d_Ss_find_13 rfl ?_
      refine ex_get1 0 fl_Ss_11 d_Ss_find_14 rfl rfl ?_
      refine ex_il d_Ss_find_17 rfl ?_
      refine ex_ald51 1 d_Ss_find_18 rfl (ix_e hp) ?_
      refine ex_asq d_Ss_find_19 (Nat.le_of_ble_eq_true rfl) ?_
      refine ex_alq d_Ss_find_21 rfl ?_
      have J49 : F ((fsN x + j) % 64) ≠ none → (∀ e ∈ L, F ((fsN x + j) % 64) = some e.1 → e.2.1 ≠ x) → Ex G Γ mu_Ss_find 49 [some (.ref so), some (.int x), some (.int (nI ((fsN x + j) % 64))), some (.int (nI j)), some (va_rf (F ((fsN x + j) % 64)))] [] [SO so pl gn many marks, SPl G pl F, SG gn, PS] 0 0 := by
        intro g1 g2
        refine ex_il d_Ss_find_49 rfl ?_
        refine ex_k d_Ss_find_50 ?_
        refine ex_iadd d_Ss_find_51 ?_
        refine ex_k d_Ss_find_52 ?_
        refine ex_irem d_Ss_find_54 (by decide) ?_
        refine ex_eqT [.int (nI ((fsN x + (j + 1)) % 64))] (by rw [← nx64 rfl]) ?_
        refine ex_is d_Ss_find_55 (Nat.le_of_ble_eq_true rfl) ?_
        refine ex_inc d_Ss_find_56 rfl ?_
        refine ex_goto d_Ss_find_59 ?_
        refine ex_forget [true, true, true, true, false] ?_
        exact ih hlt (fun d hd => by
          rcases Nat.lt_or_ge d j with z | z
          · exact hno d z
          · rw [show d = j by omega]; exact ⟨g1, g2⟩)
      refine ex_ifnonnull d_Ss_find_23 (fun y hy => ?_) (fun hy => ?_)
      · refine ex_alq d_Ss_find_28 rfl ?_
        refine ex_al d_Ss_find_30 rfl ?_
        refine ex_get1 0 fl_Ss_20 d_Ss_find_31 rfl rfl ?_
        refine ex_acmp_eq (ry := some gn) d_Ss_find_34 (fun z => ?_) (fun z => ?_)
        · exact J49 (by rw [hy]; simp) (fun e he h2 => absurd (Option.some.inj (h2.symm.trans z)) (hT.ngn he))
        · have hyg : y ≠ gn := fun e => z (by rw [hy, e])
          obtain ⟨e, he, rfl⟩ := hT.mem hp hy hyg
          refine ex_alq d_Ss_find_37 rfl ?_
          refine ex_eqT [.ref e.1] (by rw [hy]; rfl) ?_
          refine ex_get 3 fl_Ss_29 d_Ss_find_39 rfl (hPS e he) rfl ?_
          refine ex_il d_Ss_find_42 rfl ?_
          refine ex_icmp_ne d_Ss_find_43 (fun z2 => ?_) (fun z2 => ?_)
          · exact J49 (by rw [hy]; simp) (fun e2 he2 h2 => by
              rw [hT.inj he2 he (Option.some.inj (h2.symm.trans hy))]; exact z2)
          · have hs : sfind L x = some e := by rw [← z2]; exact sfind_some hN he
            refine ex_alq d_Ss_find_46 rfl ?_
            exact ex_aret [SO so pl gn many marks, SPl G pl F, SG gn, PS] hG d_Ss_find_48 rfl (Or.inl ⟨_, rfl⟩) (by decide) (by decide) (eg_sub.of rfl) ⟨by rw [hs, hy]; rfl, rfl⟩
      · have hsn : sfind L x = none := sfind_none (fun e he hx => by
          obtain ⟨d, hd, h2, h3⟩ := hT.2.2 e he
          rw [hx] at h2 h3
          rcases Nat.lt_trichotomy d j with z | z | z
          · exact (hno d z).2 e he h2 hx
          · rw [z, hy] at h2; cases h2
          · exact h3 j z hy)
        refine ex_null d_Ss_find_26 ?_
        exact ex_aret [SO so pl gn many marks, SPl G pl F, SG gn, PS] (r := none) hG d_Ss_find_27 rfl (Or.inl ⟨_, rfl⟩) (by decide) (by decide) (eg_sub.of rfl) ⟨by rw [hsn]; rfl, rfl⟩
  exact ex_eqL [some (.ref so), some (.int x), some (.int (nI ((fsN x + 0) % 64))), some (.int (nI 0)), none] (by rw [Nat.add_zero, Nat.mod_eq_of_lt hf1]; rfl) (LL 0 (Nat.zero_le _) (fun d hd => absurd hd (Nat.not_lt_zero _)))
