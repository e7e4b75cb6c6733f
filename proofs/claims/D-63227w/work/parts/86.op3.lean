/-! THE LOADER, 17: what load needs -/
theorem LO_7 {x : Nat} {r : Nat → Nat} {f f' : Nat → Int32} (h2 : f' 2 = f 2) (h15 : f' 15 = f 15) (h17 : f' 17 = f 17) (h18 : f' 18 = f 18) (h19 : f' 19 = f 19) (h20 : f' 20 = f 20) (h21 : f' 21 = f 21) : LO x r f = LO x r f' := by
  unfold LO LOl
  rw [h2, h15, h17, h18, h19, h20, h21]
theorem mo_of {G : eg_G} {PP : va_W} {a nl b c : Nat} {y : Int32} {q : va_W} {nf : Nat → Nat} {vs : List Value} (hw : ALw G b c (lsF nf c) q) (h1 : (a, .inr (15, vs ++ [.ref nl])) ∈ PP) (h2 : ∀ z, z ∈ ALo nl b c y ++ q → z ∈ PP) : MOi G PP a vs c nf := by
  rcases hw with ⟨-, -, h0⟩ | ⟨cap, rfl, hcp, hl⟩
  · exact ⟨nl, b, 0, y, h1, h2 _ (List.mem_append_left _ List.mem_cons_self), fun h => absurd h (by omega)⟩
  · exact ⟨nl, b, cap, y, h1, h2 _ (List.mem_append_left _ List.mem_cons_self), fun _ => ⟨h2 _ (List.mem_append_right _ List.mem_cons_self), hl, by have := cpO_lt hcp; omega⟩⟩
theorem wd_congr {T U : Nat → Int32} {t : Nat} (h : ∀ i, i < t → T i = U i) {b : Nat} (hb : b + 4 ≤ t) : wdA U b = wdA T b := by
  unfold wdA
  rw [h b (by omega), h (b + 1) (by omega), h (b + 2) (by omega), h (b + 3) (by omega)]
theorem fil_congr {T U : Nat → Int32} {t : Nat} (ht : t ≤ 1200) (h : ∀ i, i < t → T i = U i) (hf : filB T t = true) : filB U t = true ∧ fL U = fL T ∧ fM U = fM T ∧ fE U = fE T ∧ fP U = fP T := by
  have hw := fun {b : Nat} (hb : b + 4 ≤ t) => wd_congr h hb
  obtain ⟨H0, H1, H2, et, him, hex, hpl⟩ := filB_of hf
  have zt := fil_t hf ht
  have h32 := (fil_hd hf).1
  have e0 := hw (b := 0) (by omega)
  have e4 := hw (b := 4) (by omega)
  have e8 := hw (b := 8) (by omega)
  have e12 := hw (b := 12) (by omega)
  have e16 := hw (b := 16) (by omega)
  have e20 := hw (b := 20) (by omega)
  have e24 := hw (b := 24) (by omega)
  have e28 := hw (b := 28) (by omega)
  have eL : fL U = fL T := by unfold fL; rw [e4]
  have eM : fM U = fM T := by unfold fM; rw [e8]
  have eE : fE U = fE T := by unfold fE; rw [e12]
  have eP : fP U = fP T := by unfold fP; rw [e16]
  have K0 : h0B U t = true := by unfold h0B at H0 ⊢; rw [e0]; exact H0
  have K1 : h1B U = true := by unfold h1B at H1 ⊢; rw [e4, e8, e12, e16]; exact H1
  have K2 : h2B U = true := by unfold h2B at H2 ⊢; rw [e4, e20, e24, e28]; exact H2
  have K3 : nI t = szI U := by unfold szI at et ⊢; rw [e4, e8, e12, e16]; exact et
  refine ⟨?_, eL, eM, eE, eP⟩
  rw [filB_e K0 K1 K2 K3]
  have r1 : rall (imP U) (fM U) = true := by
    rw [eM]
    refine rall_iff.mpr (fun i hi => ?_)
    have := rall_iff.mp him i hi
    unfold imP at this ⊢
    rw [eL, hw (by rw [zt]; unfold imA plA; omega)]
    exact this
  have r2 : rall (exP U) (fE U) = true := by
    rw [eE]
    refine rall_iff.mpr (fun i hi => ?_)
    have := rall_iff.mp hex i hi
    unfold exP at this ⊢
    rw [Bool.and_eq_true] at this ⊢
    refine ⟨?_, rall_iff.mpr (fun j hj => ?_)⟩
    · rw [eL, eM, e4, hw (by rw [zt]; unfold exA plA; omega), hw (b := exA (fL T) (fM T) i + 8) (by rw [zt]; unfold exA plA; omega)]
      exact this.1
    · have q := rall_iff.mp this.2 j hj
      unfold exQ at q ⊢
      rw [eL, eM, hw (b := exA (fL T) (fM T) i) (by rw [zt]; unfold exA plA; omega), hw (b := exA (fL T) (fM T) j) (by rw [zt]; unfold exA plA; omega)]
      exact q
  have r3 : rall (plP U) (fP U) = true := by
    rw [eP]
    refine rall_iff.mpr (fun i hi => ?_)
    have := rall_iff.mp hpl i hi
    unfold plP at this ⊢
    rw [eL, eM, eE, e4, e8, hw (b := plA (fL T) (fM T) (fE T) i) (by rw [zt]; unfold plA; omega), hw (b := plA (fL T) (fM T) (fE T) i + 4) (by rw [zt]; unfold plA; omega), hw (b := plA (fL T) (fM T) (fE T) i + 8) (by rw [zt]; unfold plA; omega)]
    exact this
  rw [r1, r2, r3]
  rfl
theorem FLs_congr {G : eg_G} {Q : va_W} {la n ci : Nat} {V V' : Nat → List Value} (h : FLs G Q la n ci V) (e : ∀ i, i < n → V i = V' i) : FLs G Q la n ci V' := by
  obtain ⟨b, cap, x, ae, h1, h2, h3⟩ := h
  exact ⟨b, cap, x, ae, h1, h2, fun i hi => by rw [← e i hi]; exact h3 i hi⟩
theorem FQ_congr {G : eg_G} {Q : va_W} {la lb lc t : Nat} {T U : Nat → Int32} (ht : t ≤ 1200) (h : ∀ i, i < t → T i = U i) (hf : filB T t = true) (hq : FQ G Q la lb lc T) : FLs G Q la (fM U) 12 (imV U (fL U)) ∧ FLs G Q lb (fE U) 13 (exW U (fL U) (fM U)) ∧ FLs G Q lc (fP U) 14 (plW U (fL U) (fM U) (fE U)) ∧ imgF T (fL T / 4) = imgF U (fL U / 4) := by
  have hw := fun {b : Nat} (hb : b + 4 ≤ t) => (wd_congr h hb).symm
  obtain ⟨-, eL, eM, eE, eP⟩ := fil_congr ht h hf
  have zt := fil_t hf ht
  rw [eL, eM, eE, eP]
  refine ⟨FLs_congr hq.1 (fun i hi => ?_), FLs_congr hq.2.1 (fun i hi => ?_), FLs_congr hq.2.2 (fun i hi => ?_), funext fun i => ?_⟩
  · unfold imV
    rw [hw (b := imA (fL T) i) (by rw [zt]; unfold imA plA; omega), hw (b := imA (fL T) i + 4) (by rw [zt]; unfold imA plA; omega)]
  · unfold exW
    rw [hw (b := exA (fL T) (fM T) i) (by rw [zt]; unfold exA plA; omega), hw (b := exA (fL T) (fM T) i + 4) (by rw [zt]; unfold exA plA; omega), hw (b := exA (fL T) (fM T) i + 8) (by rw [zt]; unfold exA plA; omega)]
  · unfold plW
    rw [hw (b := plA (fL T) (fM T) (fE T) i) (by rw [zt]; unfold plA; omega), hw (b := plA (fL T) (fM T) (fE T) i + 4) (by rw [zt]; unfold plA; omega), hw (b := plA (fL T) (fM T) (fE T) i + 8) (by rw [zt]; unfold plA; omega), hw (b := plA (fL T) (fM T) (fE T) i + 12) (by rw [zt]; unfold plA; omega)]
  · unfold imgF
    by_cases z : i < fL T / 4
    · rw [if_pos z, if_pos z, hw (by rw [zt]; unfold plA; omega)]
    · rw [if_neg z, if_neg z]
theorem rwC_free {p : Nat → Bool} : ∀ k r, k - rwC p k ≤ r → r < k → p r = true
  | 0, r, _, h => absurd h (Nat.not_lt_zero _)
  | k + 1, r, h1, h2 => by
    rw [rwC] at h1
    by_cases z : p k = true
    · rw [if_pos z] at h1
      by_cases y : r = k
      · rw [y]; exact z
      · exact rwC_free k r (by omega) (by omega)
    · rw [if_neg z] at h1
      omega
section OP3
variable {G : eg_G} {f : Nat → Int32} {g : Nat → Nat → Int32} {n t : Nat} {sa A : Nat → Nat} {k : Nat} {mx : Nat → Nat} {Fr : Nat → Option Nat} {PP : va_W} {T : Nat → Int32}
theorem frM_k (h : RI G f g n t sa A k mx Fr PP T) : frM g = none ↔ k = 12 := by
  constructor
  · intro z
    have e := ri_cnt h
    rw [rcnt_len, List.filter_eq_self.mpr (fun j hj => ?_), List.length_range] at e
    · exact e.symm
    · unfold mdP
      have := tfind_no z j (List.mem_range.mp hj)
      simpa using this
  · intro z
    cases hf : frM g with
    | none => rfl
    | some m =>
      obtain ⟨h1, h2, -⟩ := tfind_lt hf
      have := rcnt_lt (p := mdP g) (m := m) (by unfold mdP; rw [of_decide_eq_true h2]; rfl) h1
      rw [ri_cnt h] at this
      omega
theorem ri_free (h : RI G f g n t sa A k mx Fr PP T) {N kk : Nat} (hf : rwF (rowP g) N 208 = some kk) : kk < 208 ∧ N ≤ kk + 1 ∧ ∀ r, kk + 1 - N ≤ r → r < kk + 1 → Fr r = none := by
  obtain ⟨h1, h2, -⟩ := tfind_lt hf
  have h2 := of_decide_eq_true h2
  have hle := rwC_le (rowP g) (kk + 1)
  refine ⟨h1, by omega, fun r hr1 hr2 => ?_⟩
  have := rwC_free (p := rowP g) (kk + 1) r (by omega) hr2
  rw [← ri_fre h r (by omega)] at this
  exact of_decide_eq_true this
theorem br_nn (h : RI G f g n t sa A k mx Fr PP T) {L M E m u : Nat} {nm le gu : Int32} {U T0 : Nat → Int32} (hm : m < 12) (h8 : g 8 m = 0) (hU : ∀ b, 32 + L ≤ b → wdA U b = wdA T0 b) (hfd : ∀ i, i < M → ∃ s, tsym g n (wdA T0 (imA L i)) = some s) : ∀ j, j < 12 → j ≠ m → br3 g n L M E m u nm gu le U 14 (12 * j + m) = 0 := fun j hj hne => by
  rw [br3_14, ndN_e, ndL_T hU, if_neg]
  · by_cases z : g 14 (12 * j + m) = 0
    · exact z
    · exact absurd h8 (h.need j m hj hm z).2.1.2
  · rintro ⟨i, q1, q2⟩
    obtain ⟨s, h1, h2, h3⟩ := ndL_mem hfd i q1
    rcases ri_ow h h1 with ⟨q, -⟩ | ⟨j', hj', -, -, -, q⟩
    · exact absurd q h2
    · have := hj'.1
      omega
end OP3
theorem c_ML_leaveR (l : Launch) (G : eg_G) (x : Nat) (r a : Nat → Nat) (f : Nat → Int32) (g : Nat → Nat → Int32) (pc tr md : Int32) (pl gn n t : Nat) (marks : Int32) (F : Nat → Option Nat) (sa A : Nat → Nat) (PP : va_W) (b k : Nat) (y : Int32) (q : va_W) (mx : Nat → Nat) (Fr : Nat → Option Nat) (T : Nat → Int32) (hr0 : r 0 = a 0) (hI : RI G f g n t sa A k mx Fr PP T) (hT : TB F gn (SL g sa A n)) (hw : ALw G b k (lsF (fun i => A (mx i)) k) q) (F0 f' : Nat → Int32) (i : Nat) (hi : i < k) (hnn : ∀ j, lv g j → j ≠ mx i → g 14 (12 * j + mx i) = 0) (hLO : LO x r F0 = LO x r f') (e2 : f' 2 = f 2) (e3 : f' 3 = nI (remN g n (mx i))) (e15 : f' 15 = f 15) : Ct l G y_ML_leave 6 1 64 [.ref x, .ref (A (mx i))] [LO x r F0, MA G a (g 1) (gdB f g) (g 22) pc tr md, SO (r 1) pl gn (nI n) marks, SPl G pl F, SG gn, PP, ALo (r 2) b k y, q, RW G (r 3) Fr] (fun o S2 => ∃ pl2 F2 m2 y9 q9 P9 Fr9 n9, o = .inl none ∧ S2 = [LO x r F0, MA G a (g 1) P9 (g 22) pc tr md, SO (r 1) pl2 gn n9 m2, SPl G pl2 F2, SG gn, PP, ALo (r 2) b (k - 1) y9, q9, RW G (r 3) Fr9] ∧ CR G x f' (remG g n (mx i)) [LO x r F0, MA G a (g 1) P9 (g 22) pc tr md, SO (r 1) pl2 gn n9 m2, SPl G pl2 F2, SG gn, PP, ALo (r 2) b (k - 1) y9, q9, RW G (r 3) Fr9, TP G (r 4) T]) := by
  have hlm := hI.mlt i hi
  obtain ⟨l0, ⟨nl, b2, cap, y2, hm, hol, hq⟩, -⟩ := hI.pool _ hlm
  obtain ⟨u0, s0, w0, h10, h11, h12, hs1, hs2, hws, hu0⟩ := hI.geo _ hlm
  have hun : ∀ i', i' < k → A (mx i') = A (mx i) → i' = i := fun i' hi' e => ri_mxi hI i' i hi' hi (hI.Ainj _ _ (hI.mlt i' hi') hlm e)
  have hmo : ∀ i, i < k → ∃ fs, (A (mx i), .inr (15, fs)) ∈ PP := fun i hi => by
    obtain ⟨l1, ⟨nl, -, -, -, hm, -⟩, -⟩ := hI.pool _ (hI.mlt i hi)
    exact ⟨_, hm⟩
  have hC := c_ML_leave l G x r F0 a (g 1) (gdB f g) (g 22) pc tr md hr0 pl gn marks F (SL g sa A n) PP hT (ri_PS hI) (by rw [SL_len]; exact hI.hn2) b k y q (fun i => A (mx i)) hw hI.hk hmo Fr (A (mx i)) u0 s0 w0 _ hm (by rw [h10]; rfl) (by rw [h11]; rfl) (by rw [h12]; rfl) hu0 (by omega) i hi rfl hun
  rw [SL_len] at hC
  refine hC.cut rfl (fun o S' hk => ⟨S', rfl, ?_⟩)
  obtain ⟨pl2, F2, m2, y9, q9, h1, rfl, hT2, hw2⟩ := hk
  exact ⟨pl2, F2, m2, y9, q9, _, _, _, h1, rfl, cr_leave hI hr0 hlm h10 h11 h12 hws hu0 hi rfl hnn hLO e2 e3 e15 rfl rfl rfl hT2 hw2⟩
