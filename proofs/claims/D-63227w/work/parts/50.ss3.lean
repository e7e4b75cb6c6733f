/-! THE SYMBOLS, 3: clean, drop -/
theorem tbl_s (F : Nat → Option Nat) (gn n : Nat) : tbl F gn (n + 1) = tbl F gn n ++ (if F n = some gn then none else F n).toList := by
  unfold tbl
  rw [List.range_succ, List.filterMap_append]
  congr 1
theorem tbl_live {F : Nat → Option Nat} {gn n y : Nat} (h : F n = some y) (hy : y ≠ gn) : tbl F gn (n + 1) = tbl F gn n ++ [y] := by
  rw [tbl_s, if_neg (by rw [h]; intro z; exact hy (Option.some.inj z)), h]; rfl
theorem tbl_dead {F : Nat → Option Nat} {gn n : Nat} (h : F n = none ∨ F n = some gn) : tbl F gn (n + 1) = tbl F gn n := by
  rw [tbl_s]
  have : (if F n = some gn then none else F n) = none := by
    rcases h with z | z
    · rw [z]; rfl
    · rw [if_pos z]
  rw [this]
  show tbl F gn n ++ [] = _
  rw [List.append_nil]
theorem tbl_sub {F : Nat → Option Nat} {gn : Nat} : ∀ {m n : Nat}, m ≤ n → List.Sublist (tbl F gn m) (tbl F gn n) := by
  intro m n h
  induction n with
  | zero => rw [Nat.le_zero.mp h]; exact List.Sublist.refl _
  | succ n ih =>
    rcases Nat.lt_or_ge n m with z | z
    · rw [show m = n + 1 by omega]; exact List.Sublist.refl _
    · rw [tbl_s]
      exact (ih z).trans (List.sublist_append_left _ _)
theorem TB.fresh {F : Nat → Option Nat} {gn k y : Nat} {L : List sE} (h : TB F gn L) (hk : k < 64) (hF : F k = some y) (hy : y ≠ gn) : y ∉ tbl F gn k := by
  have hN : (tbl F gn 64).Nodup := h.2.1.nodup_iff.mpr (List.nodup_cons.mp h.1).2
  have := (tbl_sub (F := F) (gn := gn) (show k + 1 ≤ 64 by omega)).nodup hN
  rw [tbl_live hF hy, List.nodup_append] at this
  exact fun z => this.2.2 y z y (by simp) rfl
theorem TB.again {F F' : Nat → Option Nat} {gn : Nat} {L L' : List sE} (h : TB F gn L) (h' : TB F' gn L') (hs : ∀ e ∈ L', e ∈ L) (hm : L'.map (fun e => e.1) = tbl F gn 64) : TB F' gn L ∧ L'.length = L.length := by
  have hp : (L'.map (fun e => e.1)).Perm (L.map (fun e => e.1)) := by rw [hm]; exact h.2.1
  refine ⟨⟨h.1, h'.2.1.trans hp, fun e he => ?_⟩, ?_⟩
  · obtain ⟨e', he', h1⟩ := List.mem_map.mp (hp.mem_iff.mpr (List.mem_map.mpr ⟨e, he, rfl⟩))
    obtain rfl := h.inj (hs e' he') he h1
    exact h'.2.2 e' he'
  · have := hp.length_eq
    rwa [List.length_map, List.length_map] at this
theorem map_filter_cons : ∀ {L : List sE} {e : sE}, (L.map (fun e => e.1)).Nodup → e ∈ L → (L.map (fun e => e.1)).Perm (e.1 :: (L.filter (fun x => decide (x.1 ≠ e.1))).map (fun e => e.1))
  | [], _, _, he => by cases he
  | a :: L, e, hN, he => by
    rw [List.map_cons, List.nodup_cons] at hN
    by_cases z : a.1 = e.1
    · have e1 : L.filter (fun x => decide (x.1 ≠ e.1)) = L := by
        rw [List.filter_eq_self]
        intro x hx
        exact decide_eq_true (fun y => hN.1 (List.mem_map.mpr ⟨x, hx, by rw [y, z]⟩))
      rw [List.filter_cons, if_neg (by simp [z]), e1, List.map_cons, z]
    · have he2 : e ∈ L := by
        rcases List.mem_cons.mp he with y | y
        · rw [y] at z; exact absurd rfl z
        · exact y
      rw [List.filter_cons, if_pos (by simp [z]), List.map_cons, List.map_cons]
      exact ((map_filter_cons hN.2 he2).cons a.1).trans (List.Perm.swap _ _ _)
theorem TB.del {F : Nat → Option Nat} {gn j : Nat} {L : List sE} (h : TB F gn L) {e : sE} (he : e ∈ L) (hj : j < 64) (hF : F j = some e.1) : TB (va_up F j (some gn)) gn (L.filter (fun x => decide (x.1 ≠ e.1))) ∧ (L.filter (fun x => decide (x.1 ≠ e.1))).length + 1 = L.length := by
  have hg := h.ngn he
  have hN := (List.nodup_cons.mp h.1).2
  have hmf := map_filter_cons hN he
  have hup := tbl_up (F := va_up F j (some gn)) (gn := gn) (j := j) (y := e.1) (Or.inr (va_up_self _ _ _)) hg 64
  rw [if_pos hj, bx_uu, va_up_id hF] at hup
  refine ⟨⟨?_, ?_, fun e' he' => ?_⟩, ?_⟩
  · refine List.Nodup.sublist ?_ h.1
    exact List.Sublist.cons₂ gn (List.Sublist.map _ List.filter_sublist)
  · exact ((hup.symm.trans h.2.1).trans hmf).cons_inv
  · rw [List.mem_filter] at he'
    obtain ⟨he1, he2⟩ := he'
    have he2 : e'.1 ≠ e.1 := by simpa using he2
    obtain ⟨d, hd, h2, h3⟩ := h.2.2 e' he1
    refine ⟨d, hd, ?_, fun d' hd' => ?_⟩
    · rw [va_up_ne _ _ (fun z => he2 (by rw [z, hF] at h2; exact (Option.some.inj h2).symm))]; exact h2
    · by_cases y : (fsN e'.2.1 + d') % 64 = j
      · rw [y, va_up_self]; simp
      · rw [va_up_ne _ _ y]; exact h3 d' hd'
  · have := hmf.length_eq
    rw [List.length_map, List.length_cons, List.length_map] at this
    omega
theorem h40 {F : Nat → Option Nat} {gn : Nat} {L : List sE} (h : TB F gn L) : (tbl F gn 64).length = L.length := by rw [h.2.1.length_eq, List.length_map]
set_option maxRecDepth 100000 in
theorem c_Ss_clean (l : Launch) (G : eg_G) (so pl gn : Nat) (many marks : Int32) (F : Nat → Option Nat) (L : List sE) (PS : va_W) (hT : TB F gn L) (hPS : ∀ e ∈ L, syC e ∈ PS) (hL : L.length ≤ 40) : Ct l G y_Ss_clean 3 1 64 [.ref so] [SO so pl gn many marks, SPl G pl F, SG gn, PS] (fun o S2 => ∃ pl2 F2 m2, o = .inl none ∧ S2 = [SO so pl2 gn (nI L.length) m2, SPl G pl2 F2, SG gn, PS] ∧ TB F2 gn L) := by
  refine Ct.of cd_Ss_clean (eg_catb rfl) (Nat.le_of_ble_eq_true rfl) ?_
  intro Γ hG
  have hR := hG.rm
  show Ex G Γ mu_Ss_clean 0 [some (.ref so), none, none] [] [SO so pl gn many marks, SPl G pl F, SG gn, PS] 0 0
  refine ex_al d_Ss_clean_0 rfl ?_
  refine ex_get1 0 fl_Ss_11 d_Ss_clean_1 rfl rfl ?_
  refine ex_as d_Ss_clean_4 (Nat.le_of_ble_eq_true rfl) ?_
  refine ex_al d_Ss_clean_5 rfl ?_
  refine ex_k d_Ss_clean_6 ?_
  refine ex_newq (N := 64) (t := 5) hR d_Ss_clean_8 kl_Ss_9 ao_5 rfl (by decide) (by decide) (by decide) (by decide) (by decide) (fun pl2 => ?_)
  refine ex_put1 0 wl_Ss_11 d_Ss_clean_11 rfl rfl rfl (Nat.le_of_ble_eq_true rfl) ?_
  refine ex_al d_Ss_clean_14 rfl ?_
  refine ex_k d_Ss_clean_15 ?_
  refine ex_put1 0 wl_Ss_36 d_Ss_clean_16 rfl rfl rfl (Nat.le_of_ble_eq_true rfl) ?_
  refine ex_al d_Ss_clean_19 rfl ?_
  refine ex_k d_Ss_clean_20 ?_
  refine ex_put1 0 wl_Ss_33 d_Ss_clean_21 rfl rfl rfl (Nat.le_of_ble_eq_true rfl) ?_
  refine ex_eqS [SO so pl2 gn (nI 0) 0, SPl G pl F, SG gn, PS, SPl G pl2 (fun _ => none)] rfl ?_
  refine ex_k d_Ss_clean_24 ?_
  refine ex_is d_Ss_clean_25 (Nat.le_of_ble_eq_true rfl) ?_
  have LL : ∀ k, k ≤ 64 → ∀ (F2 : Nat → Option Nat) (L2 : List sE) (m2 : Int32), TB F2 gn L2 → (∀ e ∈ L2, e ∈ L) → L2.map (fun e => e.1) = tbl F gn k → Ex G Γ mu_Ss_clean 26 [some (.ref so), some (.ref pl), some (.int (nI k))] [] [SO so pl2 gn (nI L2.length) m2, SPl G pl F, SG gn, PS, SPl G pl2 F2] 1 64 := by
    refine eg_down 64 (fun k hk ih F2 L2 m2 hT2 hs hm => ?_)
    refine ex_il d_Ss_clean_26 rfl ?_
    refine ex_k d_Ss_clean_27 ?_
    refine ex_icmp_ge d_Ss_clean_29 (fun z => ?_) (fun z => ?_)
    · have z := le_n (a := 64) z
      obtain rfl : k = 64 := by omega
      obtain ⟨ha, hb⟩ := hT.again hT2 hs hm
      exact ex_vret [SO so pl2 gn (nI L.length) m2, SPl G pl2 F2, SG gn, PS] hG d_Ss_clean_61 rfl (by decide) (by decide) (by rw [hb]; exact eg_pick [0, 4, 2, 3] rfl rfl) ⟨_, _, _, rfl, rfl, ha⟩
    · have hlt := lt_n (a := 64) z
      have hl2 : L2.length ≤ 64 := by
        have e1 : L2.length = (tbl F gn k).length := by rw [← hm, List.length_map]
        have e2 := (tbl_sub (F := F) (gn := gn) hk).length_le
        rw [h40 hT] at e2
        omega
      have hl3 : L2.length < 64 := by
        have e1 : L2.length = (tbl F gn k).length := by rw [← hm, List.length_map]
        have e2 := (tbl_sub (F := F) (gn := gn) hk).length_le
        rw [h40 hT] at e2
        omega
      have J55 : ∀ (F3 : Nat → Option Nat) (L3 : List sE) (m3 : Int32), TB F3 gn L3 → (∀ e ∈ L3, e ∈ L) → L3.map (fun e => e.1) = tbl F gn (k + 1) → Ex G Γ mu_Ss_clean 55 [some (.ref so), some (.ref pl), some (.int (nI k))] [] [SO so pl2 gn (nI L3.length) m3, SPl G pl F, SG gn, PS, SPl G pl2 F3] 1 64 := by
        intro F3 L3 m3 g1 g2 g3
        refine ex_inc d_Ss_clean_55 rfl ?_
        refine ex_goto d_Ss_clean_58 ?_
        exact ih hlt F3 L3 m3 g1 g2 g3
      refine ex_al d_Ss_clean_32 rfl ?_
      refine ex_il d_Ss_clean_33 rfl ?_
      refine ex_ald51 1 d_Ss_clean_34 rfl (ix_e hlt) ?_
      refine ex_ifnull d_Ss_clean_35 (fun hy => J55 F2 L2 m2 hT2 hs (by rw [tbl_dead (Or.inl hy)]; exact hm)) (fun y hy => ?_)
      refine ex_al d_Ss_clean_38 rfl ?_
      refine ex_il d_Ss_clean_39 rfl ?_
      refine ex_ald51 1 d_Ss_clean_40 rfl (ix_e hlt) ?_
      refine ex_al d_Ss_clean_41 rfl ?_
      refine ex_get1 0 fl_Ss_20 d_Ss_clean_42 rfl rfl ?_
      refine ex_acmp_eq (ry := some gn) d_Ss_clean_45 (fun hg => J55 F2 L2 m2 hT2 hs (by rw [tbl_dead (Or.inr hg)]; exact hm)) (fun hg => ?_)
      have hyg : y ≠ gn := fun e => hg (by rw [hy, e])
      obtain ⟨e, he, rfl⟩ := hT.mem hlt hy hyg
      refine ex_al d_Ss_clean_48 rfl ?_
      refine ex_al d_Ss_clean_49 rfl ?_
      refine ex_il d_Ss_clean_50 rfl ?_
      refine ex_ald51 1 d_Ss_clean_51 rfl (ix_e hlt) ?_
      refine ex_eqT [.ref e.1, .ref so] (by rw [hy]; rfl) ?_
      refine ex_call [0, 4, 2, 3] hR (c_Ss_add l G so pl2 gn (nI L2.length) m2 F2 L2 PS hT2 (fun e he => hPS e (hs e he)) e (hPS e he) hl3 hyg (by rw [hm]; exact hT.fresh hlt hy hyg)) (eg_invV 0 d_Ss_clean_52 cd_Ss_add cx_Ss_46 rfl rfl List.mem_cons_self rfl rfl) cd_Ss_add rfl rfl (Nat.le_of_ble_eq_true rfl) (by decide) (by decide) (by decide) (by decide) (fun v S1 hK1 => ?_) (fun E S1 hK1 => ?_)
      · obtain ⟨F3, m3, h1, rfl, h3⟩ := hK1
        cases h1
        refine ex_eqS [SO so pl2 gn (nI (L2 ++ [e]).length) m3, SPl G pl F, SG gn, PS, SPl G pl2 F3] (by rw [List.length_append, List.length_singleton, ← nI_1]; rfl) ?_
        refine J55 F3 (L2 ++ [e]) m3 h3 (fun e' he' => ?_) (by rw [List.map_append, hm, tbl_live hy hyg]; rfl)
        rcases List.mem_append.mp he' with z | z
        · exact hs e' z
        · rw [List.mem_singleton] at z; rw [z]; exact he
      · obtain ⟨F3, m3, h1, -⟩ := hK1
        cases h1
  exact LL 0 (Nat.zero_le _) (fun _ => none) [] 0 (TB.emp gn) (fun e he => by cases he) rfl
