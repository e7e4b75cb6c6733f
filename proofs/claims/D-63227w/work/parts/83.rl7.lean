/-! THE RELATION, 7: a module enters, the whole -/
theorem gd_enter {f f' : Nat → Int32} {g g' : Nat → Nat → Int32} {m u w : Nat} (hm : m < 12) (h8m : g 8 m = 0) (hw : 512 + 16 * u + w ≤ 4096) (e2 : f' 2 = f 2) (e8 : g' 8 = upd (g 8) m 1) (e10 : g' 10 = upd (g 10) m (nI (512 + 16 * u))) (e12 : g' 12 = upd (g 12) m (nI w)) : gdB f' g' = gdU (gdB f g) (512 + 16 * u) true w := by
  funext y
  rw [gdU_e]
  by_cases hy : y < 512 ∨ 4096 ≤ y
  · rw [if_neg, gdB_lo hy e2]
    rintro ⟨i, hi, rfl⟩
    rcases hy with hy | hy
    · have := (nI_ltI (b := 512) (by omega) (by decide)).mp hy
      omega
    · have := (nI_leI (a := 4096) (by decide) (by omega)).mp hy
      omega
  · obtain ⟨z, hz0, rfl⟩ := nI_of (x := y) (fun q => hy (Or.inl (Int32.lt_trans q (by decide))))
    have hz1 : 512 ≤ z := by
      rcases Nat.lt_or_ge z 512 with q | q
      · exact absurd (Or.inl ((nI_ltI (b := 512) hz0 (by decide)).mpr q)) hy
      · exact q
    have hz2 : z < 4096 := by
      rcases Nat.lt_or_ge z 4096 with q | q
      · exact q
      · exact absurd (Or.inr ((nI_leI (a := 4096) (by decide) hz0).mpr q)) hy
    have ep : ∀ j, j < 12 → j ≠ m → gdP f' g' (nI z) j = gdP f g (nI z) j := fun j _ hne => by
      unfold gdP
      rw [e8, e10, e12, pk_un hne, pk_un hne, pk_un hne]
    have em : gdP f' g' (nI z) m = decide (512 + 16 * u ≤ z ∧ z < 512 + 16 * u + w) := gdP_n ⟨hm, by rw [e8, pk_us]; decide⟩ (by rw [e10, pk_us]) (by rw [e12, pk_us]) (by omega) hz2
    have e0 : gdP f g (nI z) m = false := gdP_d h8m
    rw [gdB_n hz1 hz2, gdB_n hz1 hz2]
    by_cases q : ∃ i, i < w ∧ nI z = nI (512 + 16 * u + i)
    · rw [if_pos q]
      obtain ⟨i, hi, ei⟩ := q
      have ei := (nI_eq (by omega) (by omega)).mp ei
      exact rany_iff.mpr ⟨m, hm, by rw [em]; exact decide_eq_true (by omega)⟩
    · rw [if_neg q]
      have em0 : gdP f' g' (nI z) m = false := by
        rw [em]
        refine decide_eq_false (fun w2 => q ⟨z - (512 + 16 * u), by omega, by congr 1; omega⟩)
      have ea : ∀ j, j < 12 → gdP f' g' (nI z) j = gdP f g (nI z) j := fun j hj => by
        by_cases hjm : j = m
        · rw [hjm, em0, e0]
        · exact ep j hj hjm
      cases hb : rany (gdP f g (nI z)) 12 with
      | true =>
        obtain ⟨j, hj, e⟩ := rany_iff.mp hb
        exact rany_iff.mpr ⟨j, hj, by rw [ea j hj]; exact e⟩
      | false =>
        cases hb2 : rany (gdP f' g' (nI z)) 12 with
        | false => rfl
        | true =>
          obtain ⟨j, hj, e⟩ := rany_iff.mp hb2
          rw [ea j hj] at e
          rw [show rany (gdP f g (nI z)) 12 = true from rany_iff.mpr ⟨j, hj, e⟩] at hb
          cases hb
section RL7
variable {G : eg_G} {f : Nat → Int32} {g : Nat → Nat → Int32} {n t : Nat} {sa A : Nat → Nat} {k : Nat} {mx : Nat → Nat} {Fr : Nat → Option Nat} {PP : va_W} {T : Nat → Int32}
variable {L M E m u w ma j0 : Nat} {nm le : Int32} {U T0 : Nat → Int32} {se : Nat → Nat} {PP' : va_W}
theorem ri_nl (h : RI G f g n t sa A k mx Fr PP T) (h8 : g 8 m = 0) {s : Nat} (hs : s < n) (hm : m < 12) : g 7 s ≠ nI m := fun z => by
  rcases h.hof s hs with q | ⟨j, hj, q⟩
  · rw [q] at z
    exact absurd (show (-1 : Int32) < 0 by decide) (by rw [z]; exact nI_pos (by omega))
  · have := hj.1
    have e := (nI_eq (by omega) (by omega)).mp (q.symm.trans z)
    rw [e] at hj
    exact hj.2 h8
theorem ow_up (h : RI G f g n t sa A k mx Fr PP T) (h8 : g 8 m = 0) (hm : m < 12) {s : Nat} (hs : s < n) : ow (va_up A m ma) (g 7 s) = ow A (g 7 s) := by
  rcases ri_ow h hs with ⟨h1, h2⟩ | ⟨j, hj, h1, h2, h3, h4⟩
  · rw [h2, ow_n h1]
  · have := hj.1
    rw [h3, h1, ow_s (by omega), va_up_ne _ _ (fun z => by rw [z] at hj; exact hj.2 h8)]
def saU (sa se : Nat → Nat) (n : Nat) : Nat → Nat := fun s => if s < n then sa s else se (s - n)
theorem sEn_old (h : RI G f g n t sa A k mx Fr PP T) (h8 : g 8 m = 0) (hm : m < 12) {s : Nat} (hs : s < n) {ad : Nat} {gu : Int32} : sEn (br3 g n L M E m ad nm gu le U) (saU sa se n) (va_up A m ma) s = sEn g sa A s := by
  unfold sEn
  rw [br3_c (Or.inl rfl), br3_c (Or.inr (Or.inl rfl)), br3_c (Or.inr (Or.inr (Or.inl rfl))), br3_c (Or.inr (Or.inr (Or.inr rfl))), if_neg (by omega), if_neg (by omega), if_neg (by omega), if_neg (by omega), ow_up h h8 hm hs]
  unfold saU
  rw [if_pos hs]
theorem sEn_new (hU : ∀ b, 32 + L ≤ b → wdA U b = wdA T0 b) (hm : m < 12) {i : Nat} (hi : i < E) {ad : Nat} {gu : Int32} : sEn (br3 g n L M E m ad nm gu le U) (saU sa se n) (va_up A m ma) (n + i) = nsE T0 L M (nI ad) ma se i := by
  unfold sEn nsE
  rw [br3_c (Or.inl rfl), br3_c (Or.inr (Or.inl rfl)), br3_c (Or.inr (Or.inr (Or.inl rfl))), br3_c (Or.inr (Or.inr (Or.inr rfl))), if_pos (by omega), if_pos (by omega), if_pos (by omega), if_pos (by omega), show n + i - n = i by omega]
  unfold saU
  rw [if_neg (by omega), show n + i - n = i by omega]
  show (se i, wdA U (exA L M i), wdA U (exA L M i + 4), nI ad + wdA U (exA L M i + 8), ow (va_up A m ma) (nI m)) = _
  rw [hU _ (by unfold exA; omega), hU _ (by unfold exA; omega), hU _ (by unfold exA; omega), ow_s (by omega), va_up_self]
theorem SL_enter (h : RI G f g n t sa A k mx Fr PP T) (h8 : g 8 m = 0) (hm : m < 12) (hU : ∀ b, 32 + L ≤ b → wdA U b = wdA T0 b) {ad : Nat} {gu : Int32} : SL (br3 g n L M E m ad nm gu le U) (saU sa se n) (va_up A m ma) (n + E) = SL g sa A n ++ nsL T0 L M (nI ad) ma se E := by
  unfold SL nsL
  rw [List.range_add, List.map_append, List.map_map]
  congr 1
  · exact List.map_congr_left fun s hs => sEn_old h h8 hm (List.mem_range.mp hs)
  · refine List.map_congr_left fun i hi => ?_
    show sEn _ _ _ (n + i) = _
    exact sEn_new hU hm (List.mem_range.mp hi)
theorem ri_enter (h : RI G f g n t sa A k mx Fr PP T) (hm : m < 12) (h8 : g 8 m = 0) (hE : n + E ≤ 40) (hL1 : 4 ≤ L) (hL : L ≤ 512) (hw : w ≤ L) (hu : u + (L + 15) / 16 ≤ 208)
    (hfree : ∀ r, u ≤ r → r < u + (L + 15) / 16 → Fr r = none) (hU : ∀ b, 32 + L ≤ b → wdA U b = wdA T0 b) (hUb : ∀ i, i < L → U (32 + i) &&& 255 = U (32 + i))
    (hfd : ∀ i, i < M → ∃ s, tsym g n (wdA T0 (imA L i)) = some s) (hnew : ∀ i, i < E → tsym g n (wdA T0 (exA L M i)) = none) (hdis : ∀ i i', i < i' → i' < E → wdA T0 (exA L M i) ≠ wdA T0 (exA L M i'))
    (hnm : tmod g nm = none) (hfr : ∀ z ∈ PP, z.1 ≠ ma) (hj0 : j0 ≤ k) (hlo : ∀ i, i < j0 → g 10 (mx i) < nI (512 + 16 * u)) (hhi : j0 < k → ¬ g 10 (mx j0) < nI (512 + 16 * u))
    (hsub : ∀ z ∈ PP, z ∈ PP') (hps : ∀ i, i < E → syC (nsE T0 L M (nI (512 + 16 * u)) ma se i) ∈ PP') (hmo : MOi G PP' ma (mvs nm (nI (512 + 16 * u)) (nI L) (nI w) le (nI E)) (ndL g n T0 L M).length (nfL A (ndL g n T0 L M)))
    {f' : Nat → Int32} (e3 : f' 3 = nI (n + E)) (e2 : f' 2 = f 2) (e15 : f' 15 = nI 0) : RI G f' (br3 g n L M E m (512 + 16 * u) nm (nI w) le U) (n + E) 0 (saU sa se n) (va_up A m ma) (k + 1) (insN mx j0 m) (owF Fr u (some ma) ((L + 15) / 16)) PP' T := by
  have hk1 : k < 12 := by
    have := rcnt_lt (p := mdP g) (m := m) (by unfold mdP; rw [h8]; rfl) hm
    rw [ri_cnt h] at this
    exact this
  have hnl : ¬ lv g m := fun z => z.2 h8
  have hne : ∀ {j}, lv g j → j ≠ m := fun hj z => hnl (z ▸ hj)
  have hAu : ∀ {j}, lv g j → va_up A m ma j = A j := fun hj => va_up_ne _ _ (hne hj)
  have hAm : va_up A m ma m = ma := va_up_self _ _ _
  have hAf : ∀ {j}, lv g j → A j ≠ ma := fun hj => by
    obtain ⟨l, ⟨nl, b, cap, y, h1, -⟩, -⟩ := h.pool _ hj
    exact hfr _ h1
  have e10o : ∀ {j}, lv g j → br3 g n L M E m (512 + 16 * u) nm (nI w) le U 10 j = g 10 j := fun hj => by rw [br3_10, pk_un (hne hj)]
  have e10m : br3 g n L M E m (512 + 16 * u) nm (nI w) le U 10 m = nI (512 + 16 * u) := by rw [br3_10, pk_us]
  have e11m : br3 g n L M E m (512 + 16 * u) nm (nI w) le U 11 m = nI L := by rw [br3_11, pk_us]
  have eco : ∀ {j} r, lv g j → (cov (br3 g n L M E m (512 + 16 * u) nm (nI w) le U) j r ↔ cov g j r) := fun r hj => by
    unfold cov
    rw [e10o hj, br3_11, pk_un (hne hj)]
  have ecm : ∀ r, r < 208 → (cov (br3 g n L M E m (512 + 16 * u) nm (nI w) le U) m r ↔ u ≤ r ∧ r < u + (L + 15) / 16) := fun r hr => cov_iff e10m e11m hu hr
  have hndm : ∀ i ∈ ndL g n T0 L M, lv g i := fun i hi => by
    obtain ⟨s, h1, h2, h3⟩ := ndL_mem hfd i hi
    rcases ri_ow h h1 with ⟨q, -⟩ | ⟨j, hj, -, -, -, q⟩
    · exact absurd q h2
    · rw [h3, q]; exact hj
  have hbne : ∀ i, i < k → j0 ≤ i → nI (512 + 16 * u) < g 10 (mx i) := fun i hi hji => by
    have hmi := h.mlt i hi
    have hle : nI (512 + 16 * u) ≤ g 10 (mx i) := Int32.le_trans (Int32.not_lt.mp (hhi (by omega))) (ri_le h hji hi)
    refine Int32.lt_of_le_of_ne hle (fun z => ?_)
    obtain ⟨u', s', w', a1, a2, a3, a4, a5, a6, a7⟩ := h.geo _ hmi
    rw [a1] at z
    have z := (nI_eq (by omega) (by omega)).mp z
    have huu : u = u' := by omega
    have := (h.rows u (mx i) (by omega) hmi).mpr ((cov_iff a1 a2 a7 (by omega)).mpr (by omega))
    rw [hfree u (by omega) (by omega)] at this
    cases this
  have hm0 : ∀ i, i < 12 → g 14 (12 * m + i) = 0 := fun i hi => by
    by_cases z : g 14 (12 * m + i) = 0
    · exact z
    · exact absurd (h.need m i hm hi z).1 hnl
  have e14 : ∀ j i, j < 12 → i < 12 → (¬ br3 g n L M E m (512 + 16 * u) nm (nI w) le U 14 (12 * j + i) = 0 ↔ (j = m ∧ i ∈ ndL g n T0 L M) ∨ (j ≠ m ∧ ¬ g 14 (12 * j + i) = 0)) := fun j i hj hi => by
    rw [br3_14, ndN_e, ndL_T hU]
    by_cases hjm : j = m
    · rw [hjm]
      by_cases hin : i ∈ ndL g n T0 L M
      · rw [if_pos ⟨i, hin, rfl⟩]
        simp [hin]
      · rw [if_neg (fun ⟨i', q1, q2⟩ => hin (by rw [show i = i' by omega]; exact q1)), hm0 i hi]
        simp [hin]
    · rw [if_neg (fun ⟨i', q1, q2⟩ => by have := (hndm i' q1).1; omega)]
      simp [hjm]
  have ecnt : ∀ {j}, lv g j → rcnt (ofP (br3 g n L M E m (512 + 16 * u) nm (nI w) le U) (n + E) j) 40 = rcnt (ofP g n j) 40 := fun {j} hj => by
    refine rcnt_congr (fun i hi => ?_)
    unfold ofP
    rw [br3_c (Or.inr (Or.inr (Or.inr rfl)))]
    by_cases z : n ≤ i ∧ i < n + E
    · rw [if_pos z, decide_eq_false (p := i < n) (by omega), Bool.false_and]
      have := hj.1
      rw [show nvE U L M (512 + 16 * u) m 7 (i - n) = nI m from rfl, decide_eq_false (p := nI m = nI j) (fun q => hne hj ((nI_eq (by omega) (by omega)).mp q).symm), Bool.and_false]
    · rw [if_neg z, show decide (i < n + E) = decide (i < n) from decide_eq_decide.mpr (by omega)]
  have ecntm : rcnt (ofP (br3 g n L M E m (512 + 16 * u) nm (nI w) le U) (n + E) m) 40 = E := by
    rw [rcnt_len]
    have : (List.range 40).filter (ofP (br3 g n L M E m (512 + 16 * u) nm (nI w) le U) (n + E) m) = (List.range 40).filter (fun i => decide (n ≤ i ∧ i < n + E)) := by
      refine List.filter_congr fun i hi => ?_
      unfold ofP
      rw [br3_c (Or.inr (Or.inr (Or.inr rfl)))]
      by_cases z : n ≤ i ∧ i < n + E
      · rw [if_pos z, decide_eq_true (p := i < n + E) z.2, decide_eq_true z, show nvE U L M (512 + 16 * u) m 7 (i - n) = nI m from rfl, decide_eq_true rfl]
        rfl
      · rw [if_neg z, decide_eq_false z]
        by_cases y : i < n + E
        · rw [decide_eq_false (ri_nl h h8 (by omega) hm), Bool.and_false]
        · rw [decide_eq_false y, Bool.false_and]
    rw [this, len_same (l' := (List.range E).map (fun i => n + i)) (List.nodup_range.filter _) ?_ (fun i => ?_), List.length_map, List.length_range]
    · rw [List.Nodup, List.pairwise_map]
      exact List.Pairwise.imp (fun hne e => hne (by omega)) List.nodup_range
    · rw [List.mem_filter, List.mem_range, List.mem_map, decide_eq_true_eq]
      constructor
      · rintro ⟨q1, q2⟩
        exact ⟨i - n, List.mem_range.mpr (by omega), by omega⟩
      · rintro ⟨i', q1, rfl⟩
        have := List.mem_range.mp q1
        exact ⟨by omega, by omega⟩
  have hold : ∀ {s}, s < n → sEn (br3 g n L M E m (512 + 16 * u) nm (nI w) le U) (saU sa se n) (va_up A m ma) s = sEn g sa A s := fun hs => sEn_old h h8 hm hs
  have hnw : ∀ {i}, i < E → sEn (br3 g n L M E m (512 + 16 * u) nm (nI w) le U) (saU sa se n) (va_up A m ma) (n + i) = nsE T0 L M (nI (512 + 16 * u)) ma se i := fun hi => sEn_new hU hm hi
  have e4o : ∀ {s}, s < n → br3 g n L M E m (512 + 16 * u) nm (nI w) le U 4 s = g 4 s := fun hs => by rw [br3_c (Or.inl rfl), if_neg (by omega)]
  have e4n : ∀ {s}, n ≤ s → s < n + E → br3 g n L M E m (512 + 16 * u) nm (nI w) le U 4 s = wdA T0 (exA L M (s - n)) := fun h1 h2 => by
    rw [br3_c (Or.inl rfl), if_pos ⟨h1, h2⟩]
    show wdA U (exA L M _) = _
    exact hU _ (by unfold exA; omega)
  have hon : ∀ {s s'}, s < n → n ≤ s' → s' < n + E → ¬ g 4 s = wdA T0 (exA L M (s' - n)) := fun {s s'} h1 h2 h3 z => by
    have := tfind_no (hnew (s' - n) (by omega)) s h1
    rw [decide_eq_true z] at this
    cases this
  refine RI.of e3 hE e15 (by decide) (by rw [e2]; exact h.hse) (by rw [br3_1]; exact cpM_by h.hM hUb L (Nat.le_refl _)) h.hTb (fun i hi => absurd hi (Nat.not_lt_zero _)) ?_ ?_ ?_ (by omega) ?_ ?_ ?_ ?_ ?_ ?_ ?_ ?_ ?_ ?_
  · intro s s' hs hs' e
    by_cases z : s < n
    · rw [e4o z] at e
      by_cases z' : s' < n
      · rw [e4o z'] at e
        exact h.hnd s s' z z' e
      · rw [e4n (by omega) hs'] at e
        exact absurd e (hon z (by omega) hs')
    · rw [e4n (by omega) hs] at e
      by_cases z' : s' < n
      · rw [e4o z'] at e
        exact absurd e.symm (hon z' (by omega) hs)
      · rw [e4n (by omega) hs'] at e
        rcases Nat.lt_trichotomy (s - n) (s' - n) with q | q | q
        · exact absurd e (hdis _ _ q (by omega))
        · omega
        · exact absurd e.symm (hdis _ _ q (by omega))
  · intro s hs
    by_cases z : s < n
    · rw [hold z]
      exact hsub _ (h.hPS s z)
    · obtain ⟨i, rfl⟩ : ∃ i, s = n + i := ⟨s - n, by omega⟩
      rw [hnw (by omega)]
      exact hps i (by omega)
  · intro s hs
    by_cases z : s < n
    · rw [br3_c (Or.inr (Or.inr (Or.inr rfl))), if_neg (by omega)]
      rcases h.hof s z with q | ⟨j, hj, q⟩
      · exact Or.inl q
      · exact Or.inr ⟨j, (lv_br hm).mpr (Or.inl hj), q⟩
    · rw [br3_c (Or.inr (Or.inr (Or.inr rfl))), if_pos (by omega)]
      exact Or.inr ⟨m, (lv_br hm).mpr (Or.inr rfl), rfl⟩
  · intro i hi
    rw [lv_br hm]
    unfold insN
    by_cases z : i < j0
    · rw [if_pos z]; exact Or.inl (h.mlt i (by omega))
    · rw [if_neg z]
      by_cases z2 : i = j0
      · rw [if_pos z2]; exact Or.inr rfl
      · rw [if_neg z2]; exact Or.inl (h.mlt (i - 1) (by omega))
  · intro j hj
    rcases (lv_br hm).mp hj with q | q
    · obtain ⟨i, hi, rfl⟩ := h.msur j q
      by_cases z : i < j0
      · exact ⟨i, by omega, by unfold insN; rw [if_pos z]⟩
      · exact ⟨i + 1, by omega, by unfold insN; rw [if_neg (by omega), if_neg (by omega), show i + 1 - 1 = i by omega]⟩
    · exact ⟨j0, by omega, by unfold insN; rw [if_neg (by omega), if_pos rfl, q]⟩
  · intro i i' hii hi'
    unfold insN
    by_cases z : i < j0
    · rw [if_pos z, e10o (h.mlt i (by omega))]
      by_cases z' : i' < j0
      · rw [if_pos z', e10o (h.mlt i' (by omega))]; exact h.mord i i' hii (by omega)
      · rw [if_neg z']
        by_cases z2 : i' = j0
        · rw [if_pos z2, e10m]; exact hlo i z
        · rw [if_neg z2, e10o (h.mlt (i' - 1) (by omega))]; exact h.mord i (i' - 1) (by omega) (by omega)
    · rw [if_neg z, if_neg (show ¬ i' < j0 by omega), if_neg (show ¬ i' = j0 by omega), e10o (h.mlt (i' - 1) (by omega))]
      by_cases z2 : i = j0
      · rw [if_pos z2, e10m]; exact hbne (i' - 1) (by omega) (by omega)
      · rw [if_neg z2, e10o (h.mlt (i - 1) (by omega))]; exact h.mord (i - 1) (i' - 1) (by omega) (by omega)
  · intro j j' hj hj' e
    rw [br3_9] at e
    rcases (lv_br hm).mp hj with q | q
    · rw [pk_un (hne q)] at e
      rcases (lv_br hm).mp hj' with q' | q'
      · rw [pk_un (hne q')] at e
        exact h.mname j j' q q' e
      · rw [q', pk_us] at e
        exact absurd e (tmod_no hnm q)
    · rw [q, pk_us] at e
      rcases (lv_br hm).mp hj' with q' | q'
      · rw [pk_un (hne q')] at e
        exact absurd e.symm (tmod_no hnm q')
      · rw [q, q']
  · intro j j' hj hj' e
    rcases (lv_br hm).mp hj with q | q
    · rw [hAu q] at e
      rcases (lv_br hm).mp hj' with q' | q'
      · rw [hAu q'] at e
        exact h.Ainj j j' q q' e
      · rw [q', hAm] at e
        exact absurd e (hAf q)
    · rw [q, hAm] at e
      rcases (lv_br hm).mp hj' with q' | q'
      · rw [hAu q'] at e
        exact absurd e.symm (hAf q')
      · rw [q, q']
  · intro j hj
    rcases (lv_br hm).mp hj with q | q
    · rw [e10o q, br3_11, pk_un (hne q), br3_12, pk_un (hne q)]
      exact h.geo j q
    · rw [q, e10m, e11m, br3_12, pk_us]
      exact ⟨u, L, w, rfl, rfl, rfl, hL1, hL, hw, hu⟩
  · intro r j hr hj
    rcases (lv_br hm).mp hj with q | q
    · rw [hAu q, eco r q, ← h.rows r j hr q]
      unfold owF
      by_cases z : u ≤ r ∧ r < u + (L + 15) / 16
      · rw [if_pos z, hfree r z.1 z.2]
        exact ⟨fun y => absurd (Option.some.inj y).symm (hAf q), fun y => (by cases y)⟩
      · rw [if_neg z]
    · rw [q, hAm, ecm r hr]
      unfold owF
      by_cases z : u ≤ r ∧ r < u + (L + 15) / 16
      · rw [if_pos z]
        exact ⟨fun _ => z, fun _ => rfl⟩
      · rw [if_neg z]
        refine ⟨fun y => ?_, fun y => absurd y z⟩
        rcases h.rown r hr with y2 | ⟨j', hj', y2⟩
        · rw [y2] at y; cases y
        · rw [y2] at y
          exact absurd (Option.some.inj y) (hAf hj')
  · intro r hr
    unfold owF
    by_cases z : u ≤ r ∧ r < u + (L + 15) / 16
    · rw [if_pos z]; exact Or.inr ⟨m, (lv_br hm).mpr (Or.inr rfl), by rw [hAm]⟩
    · rw [if_neg z]
      rcases h.rown r hr with y2 | ⟨j', hj', y2⟩
      · exact Or.inl y2
      · exact Or.inr ⟨j', (lv_br hm).mpr (Or.inl hj'), by rw [y2, hAu hj']⟩
  · intro j hj
    rcases (lv_br hm).mp hj with q | q
    · obtain ⟨l, a, b, c⟩ := h.pool j q
      refine ⟨l, ?_, b, fun i => ?_⟩
      · rw [hAu q, br3_9, pk_un (hne q), e10o q, br3_11, pk_un (hne q), br3_12, pk_un (hne q), br3_13, pk_un (hne q), ecnt q]
        refine MOi_mono a hsub (fun i hi => ?_)
        have hi' := (c _).mp (getD_mem hi)
        unfold nfL
        exact (hAu (h.need j _ q.1 hi'.1 hi'.2).2.1).symm
      · rw [c]
        constructor
        · rintro ⟨q1, q2⟩
          exact ⟨q1, (e14 j i q.1 q1).mpr (Or.inr ⟨hne q, q2⟩)⟩
        · rintro ⟨q1, q2⟩
          rcases (e14 j i q.1 q1).mp q2 with ⟨y, -⟩ | ⟨-, y⟩
          · exact absurd y (hne q)
          · exact ⟨q1, y⟩
    · rw [q]
      refine ⟨ndL g n T0 L M, ?_, ndL_nd M, fun i => ?_⟩
      · rw [hAm, br3_9, pk_us, e10m, e11m, br3_12, pk_us, br3_13, pk_us, ecntm]
        refine MOi_mono hmo (fun z hz => hz) (fun i hi => ?_)
        unfold nfL
        exact (hAu (hndm _ (getD_mem hi))).symm
      · constructor
        · intro y
          have := (hndm i y).1
          exact ⟨this, (e14 m i hm this).mpr (Or.inl ⟨rfl, y⟩)⟩
        · rintro ⟨q1, q2⟩
          rcases (e14 m i hm q1).mp q2 with ⟨-, y⟩ | ⟨y, -⟩
          · exact y
          · exact absurd rfl y
  · intro j i hj hi y
    rcases (e14 j i hj hi).mp y with ⟨q1, q2⟩ | ⟨q1, q2⟩
    · have hl := hndm i q2
      exact ⟨(lv_br hm).mpr (Or.inr q1), (lv_br hm).mpr (Or.inl hl), by rw [q1]; exact hne hl⟩
    · obtain ⟨a, b, c⟩ := h.need j i hj hi q2
      exact ⟨(lv_br hm).mpr (Or.inl a), (lv_br hm).mpr (Or.inl b), c⟩
end RL7
