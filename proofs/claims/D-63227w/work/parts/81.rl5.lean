/-! THE RELATION, 5: a module leaves, the whole -/
theorem cov_iff {g : Nat → Nat → Int32} {j r u s : Nat} (h1 : g 10 j = nI (512 + 16 * u)) (h2 : g 11 j = nI s) (hu : u + (s + 15) / 16 ≤ 208) (hr : r < 208) : cov g j r ↔ u ≤ r ∧ r < u + (s + 15) / 16 := by
  have e1 : (nI (512 + 16 * u) - 512) / 16 = nI u := by
    show (nI (512 + 16 * u) - nI 512) / nI 16 = _
    rw [pk_sub (by omega), pk_div (by omega) (by decide) (by decide)]
    congr 1
    omega
  have e2 : (nI s + 15) / 16 = nI ((s + 15) / 16) := by
    show (nI s + nI 15) / nI 16 = _
    rw [nI_add, pk_div (by omega) (by decide) (by decide)]
  unfold cov
  rw [h1, h2, e1, e2, nI_add, nI_leI (by omega) (by omega), nI_ltI (by omega) (by omega)]
theorem gdU_e (P : Int32 → Bool) (u : Nat) (b : Bool) : ∀ n y, gdU P u b n y = if ∃ i, i < n ∧ y = nI (u + i) then b else P y
  | 0, y => by rw [if_neg (fun ⟨i, h, _⟩ => absurd h (Nat.not_lt_zero _))]; rfl
  | n + 1, y => by
    rw [gdU]
    show (if y = nI (u + n) then b else gdU P u b n y) = _
    by_cases z : y = nI (u + n)
    · rw [if_pos z, if_pos ⟨n, by omega, z⟩]
    · rw [if_neg z, gdU_e P u b n y]
      by_cases w : ∃ i, i < n ∧ y = nI (u + i)
      · obtain ⟨i, h1, h2⟩ := w
        rw [if_pos ⟨i, h1, h2⟩, if_pos ⟨i, by omega, h2⟩]
      · rw [if_neg w, if_neg]
        rintro ⟨i, h1, h2⟩
        rcases Nat.lt_or_ge i n with q | q
        · exact w ⟨i, q, h2⟩
        · exact z (by rw [h2, show i = n by omega])
/-- guarded, by numbers -/
theorem gdB_n {f : Nat → Int32} {g : Nat → Nat → Int32} {z : Nat} (h1 : 512 ≤ z) (h2 : z < 4096) : gdB f g (nI z) = rany (gdP f g (nI z)) 12 := by
  unfold gdB
  rw [if_neg (fun w => w.elim (nI_pos (by omega)) (fun w => absurd ((nI_leI (a := 4096) (by decide) (by omega)).mp w) (by omega))), if_neg (show ¬ nI z < 512 from fun w => absurd ((nI_ltI (b := 512) (by omega) (by decide)).mp w) (by omega))]
theorem gdB_lo {f f' : Nat → Int32} {g g' : Nat → Nat → Int32} {y : Int32} (h : y < 512 ∨ 4096 ≤ y) (e : f' 2 = f 2) : gdB f' g' y = gdB f g y := by
  unfold gdB
  by_cases z : y < 0 ∨ 4096 ≤ y
  · rw [if_pos z, if_pos z]
  · rw [if_neg z, if_neg z]
    rcases h with h | h
    · rw [if_pos h, if_pos h, e]
    · exact absurd (Or.inr h) z
theorem gdP_n {f : Nat → Int32} {g : Nat → Nat → Int32} {j z u w : Nat} (hj : lv g j) (h1 : g 10 j = nI (512 + 16 * u)) (h2 : g 12 j = nI w) (hu : 16 * u + w < 2 ^ 30) (hz : z < 4096) : gdP f g (nI z) j = decide (512 + 16 * u ≤ z ∧ z < 512 + 16 * u + w) := by
  unfold gdP
  rw [h1, h2, nI_add, decide_eq_true hj.2, Bool.true_and]
  rw [show decide (nI (512 + 16 * u) ≤ nI z) = decide (512 + 16 * u ≤ z) from decide_eq_decide.mpr (nI_leI (by omega) (by omega)), show decide (nI z < nI (512 + 16 * u + w)) = decide (z < 512 + 16 * u + w) from decide_eq_decide.mpr (nI_ltI (by omega) (by omega))]
  rw [← Bool.decide_and]
theorem gdP_d {f : Nat → Int32} {g : Nat → Nat → Int32} {j : Nat} {y : Int32} (hj : g 8 j = 0) : gdP f g y j = false := by
  unfold gdP
  rw [decide_eq_false (p := ¬ g 8 j = 0) (fun w => w hj)]
  rfl
section RL5
variable {G : eg_G} {f : Nat → Int32} {g : Nat → Nat → Int32} {n t : Nat} {sa A : Nat → Nat} {k : Nat} {mx : Nat → Nat} {Fr : Nat → Option Nat} {PP : va_W} {T : Nat → Int32}
theorem ri_dis (h : RI G f g n t sa A k mx Fr PP T) {j j' r : Nat} (hr : r < 208) (hj : lv g j) (hj' : lv g j') (h1 : cov g j r) (h2 : cov g j' r) : j = j' := by
  have e1 := (h.rows r j hr hj).mpr h1
  have e2 := (h.rows r j' hr hj').mpr h2
  rw [e1] at e2
  exact h.Ainj j j' hj hj' (Option.some.inj e2)
/-- a guarded byte lies in a row of its module -/
theorem ri_byte (h : RI G f g n t sa A k mx Fr PP T) {j u s w z : Nat} (hj : lv g j) (h1 : g 10 j = nI (512 + 16 * u)) (h2 : g 11 j = nI s) (h3 : g 12 j = nI w) (hws : w ≤ s) (hu : u + (s + 15) / 16 ≤ 208) (hz : 512 + 16 * u ≤ z ∧ z < 512 + 16 * u + w) : (z - 512) / 16 < 208 ∧ cov g j ((z - 512) / 16) := by
  have hr : (z - 512) / 16 < 208 := by omega
  exact ⟨hr, (cov_iff h1 h2 hu hr).mpr (by omega)⟩
theorem gd_leave (h : RI G f g n t sa A k mx Fr PP T) {m u s w : Nat} (hm : lv g m) (h1 : g 10 m = nI (512 + 16 * u)) (h2 : g 11 m = nI s) (h3 : g 12 m = nI w) (hws : w ≤ s) (hu : u + (s + 15) / 16 ≤ 208) {f' : Nat → Int32} (e2 : f' 2 = f 2) {g' : Nat → Nat → Int32} (e8 : g' 8 = upd (g 8) m 0) (e10 : g' 10 = g 10) (e12 : g' 12 = g 12) : gdB f' g' = gdU (gdB f g) (512 + 16 * u) false w := by
  funext y
  rw [gdU_e]
  by_cases hy : y < 512 ∨ 4096 ≤ y
  · rw [if_neg, gdB_lo hy e2]
    rintro ⟨i, hi, rfl⟩
    rcases hy with hy | hy
    · have := (nI_ltI (b := 512) (by omega) (by decide)).mp hy
      omega
    · have := (nI_leI (a := 4096) (by decide) (by omega)).mp hy
      omega
  · obtain ⟨z, hz0, rfl⟩ := nI_of (x := y) (fun q => hy (Or.inl (Int32.lt_trans q (by decide))))
    have hz1 : 512 ≤ z := by
      rcases Nat.lt_or_ge z 512 with q | q
      · exact absurd (Or.inl ((nI_ltI (b := 512) hz0 (by decide)).mpr q)) hy
      · exact q
    have hz2 : z < 4096 := by
      rcases Nat.lt_or_ge z 4096 with q | q
      · exact q
      · exact absurd (Or.inr ((nI_leI (a := 4096) (by decide) hz0).mpr q)) hy
    have ep : ∀ j, j < 12 → j ≠ m → gdP f' g' (nI z) j = gdP f g (nI z) j := fun j _ hne => by
      unfold gdP
      rw [e8, e10, e12, pk_un hne]
    have em : gdP f' g' (nI z) m = false := gdP_d (by rw [e8, pk_us])
    rw [gdB_n hz1 hz2, gdB_n hz1 hz2]
    by_cases q : ∃ i, i < w ∧ nI z = nI (512 + 16 * u + i)
    · rw [if_pos q]
      obtain ⟨i, hi, ei⟩ := q
      have ei := (nI_eq (by omega) (by omega)).mp ei
      cases hb : rany (gdP f' g' (nI z)) 12 with
      | false => rfl
      | true =>
        obtain ⟨j, hj, e⟩ := rany_iff.mp hb
        by_cases hjm : j = m
        · rw [hjm, em] at e
          cases e
        · rw [ep j hj hjm] at e
          have hjl : lv g j := ⟨hj, fun z8 => by rw [gdP_d z8] at e; cases e⟩
          obtain ⟨u', s', w', a1, a2, a3, a4, a5, a6, a7⟩ := h.geo j hjl
          rw [gdP_n hjl a1 a3 (by omega) hz2] at e
          obtain ⟨b1, b2⟩ := ri_byte h hjl a1 a2 a3 a6 a7 (of_decide_eq_true e)
          obtain ⟨c1, c2⟩ := ri_byte h hm h1 h2 h3 hws hu (z := z) (by omega)
          exact absurd (ri_dis h b1 hjl hm b2 c2) hjm
    · rw [if_neg q]
      cases hb : rany (gdP f g (nI z)) 12 with
      | true =>
        obtain ⟨j, hj, e⟩ := rany_iff.mp hb
        refine rany_iff.mpr ⟨j, hj, ?_⟩
        by_cases hjm : j = m
        · rw [hjm, gdP_n hm h1 h3 (by omega) hz2] at e
          obtain ⟨b1, b2⟩ := of_decide_eq_true e
          exact absurd ⟨z - (512 + 16 * u), by omega, by congr 1; omega⟩ q
        · rw [ep j hj hjm]; exact e
      | false =>
        cases hb2 : rany (gdP f' g' (nI z)) 12 with
        | false => rfl
        | true =>
          obtain ⟨j, hj, e⟩ := rany_iff.mp hb2
          by_cases hjm : j = m
          · rw [hjm, em] at e
            cases e
          · rw [ep j hj hjm] at e
            rw [show rany (gdP f g (nI z)) 12 = true from rany_iff.mpr ⟨j, hj, e⟩] at hb
            cases hb
theorem SL_leave (h : RI G f g n t sa A k mx Fr PP T) {m : Nat} (hm : lv g m) : SL (remG g n m) (fun i => sa ((kpL (g 7) m n).getD i 0)) A (remN g n m) = (SL g sa A n).filter (nOf (A m)) := by
  unfold SL
  rw [remN_e, List.filter_map]
  have e : (List.range (kpL (g 7) m n).length).map (sEn (remG g n m) (fun i => sa ((kpL (g 7) m n).getD i 0)) A) = (List.range (kpL (g 7) m n).length).map (fun i => sEn g sa A ((kpL (g 7) m n).getD i 0)) := by
    refine List.map_congr_left fun i hi => ?_
    have hi := List.mem_range.mp hi
    unfold sEn
    rw [remG_c (Or.inl rfl) hi, remG_c (Or.inr (Or.inl rfl)) hi, remG_c (Or.inr (Or.inr (Or.inl rfl))) hi, remG_c (Or.inr (Or.inr (Or.inr rfl))) hi]
  rw [e, range_getD]
  unfold kpL
  congr 1
  refine List.filter_congr fun s hs => ?_
  have hs := List.mem_range.mp hs
  show _ = decide (ow A (g 7 s) ≠ some (A m))
  rw [decide_eq_decide]
  have := hm.1
  rcases ri_ow h hs with ⟨h1, h2⟩ | ⟨j, hj, h1, h2, h3, h4⟩
  · rw [h2]
    refine ⟨fun _ z => (by cases z), fun _ z => ?_⟩
    rw [z] at h1
    exact nI_pos (by omega) h1
  · rw [h3, h1]
    have := hj.1
    refine ⟨fun q z => q ?_, fun q z => q ?_⟩
    · rw [h.Ainj j m hj hm (Option.some.inj z)]
    · rw [(nI_eq (by omega) (by omega)).mp z]
theorem ri_leave (h : RI G f g n t sa A k mx Fr PP T) {m u s i0 : Nat} (hm : lv g m) (h1 : g 10 m = nI (512 + 16 * u)) (h2 : g 11 m = nI s) (hu : u + (s + 15) / 16 ≤ 208) (hi0 : i0 < k) (him : mx i0 = m) (hnn : ∀ j, lv g j → j ≠ m → g 14 (12 * j + m) = 0) {f' : Nat → Int32} (e3 : f' 3 = nI (remN g n m)) (e2 : f' 2 = f 2) (e15 : f' 15 = f 15) : RI G f' (remG g n m) (remN g n m) t (fun i => sa ((kpL (g 7) m n).getD i 0)) A (k - 1) (delN mx i0) (owF Fr u none ((s + 15) / 16)) PP T := by
  have hk := h.hk
  have hmlt := hm.1
  have hn2 := h.hn2
  have hle := kp_len (n := n) (m := m) (u := g 7)
  have hdel : ∀ i, i < k - 1 → ∃ i', i' < k ∧ i' ≠ i0 ∧ delN mx i0 i = mx i' := fun i hi => by
    unfold delN
    by_cases z : i < i0
    · rw [if_pos z]; exact ⟨i, by omega, by omega, rfl⟩
    · rw [if_neg z]; exact ⟨i + 1, by omega, by omega, rfl⟩
  have eo : ∀ c, ¬ c47 c → c ≠ 8 → c ≠ 14 → remG g n m c = g c := fun c a b d => remG_o a b d
  have e9 := eo 9 (by unfold c47; omega) (by decide) (by decide)
  have e10 := eo 10 (by unfold c47; omega) (by decide) (by decide)
  have e11 := eo 11 (by unfold c47; omega) (by decide) (by decide)
  have e12 := eo 12 (by unfold c47; omega) (by decide) (by decide)
  have e13 := eo 13 (by unfold c47; omega) (by decide) (by decide)
  have e1 := eo 1 (by unfold c47; omega) (by decide) (by decide)
  have e16 := eo 16 (by unfold c47; omega) (by decide) (by decide)
  have ec : cov (remG g n m) = cov g := by funext j r; unfold cov; rw [e10, e11]
  have e14 : ∀ j i, j < 12 → i < 12 → remG g n m 14 (12 * j + i) = if j = m then 0 else g 14 (12 * j + i) := fun j i hj hi => by
    rw [remG_14, clN_e]
    by_cases z : j = m
    · rw [if_pos z, if_pos (by omega)]
    · rw [if_neg z, if_neg (by omega)]
  refine RI.of e3 (by rw [remN_e]; omega) (e15.trans h.ht) h.ht2 (by rw [e2]; exact h.hse) (by rw [e1]; exact h.hM) h.hTb (by rw [e16]; exact h.hT) ?_ ?_ ?_ (by omega) ?_ ?_ ?_ ?_ ?_ ?_ ?_ ?_ ?_ ?_
  · intro a b ha hb e
    rw [remN_e] at ha hb
    rw [remG_c (Or.inl rfl) ha, remG_c (Or.inl rfl) hb] at e
    exact getD_inj kp_nd ha hb (h.hnd _ _ (kp_lt ha).1 (kp_lt hb).1 e)
  · intro a ha
    rw [remN_e] at ha
    have := h.hPS _ (kp_lt ha).1
    unfold sEn at this ⊢
    rw [remG_c (Or.inl rfl) ha, remG_c (Or.inr (Or.inl rfl)) ha, remG_c (Or.inr (Or.inr (Or.inl rfl))) ha, remG_c (Or.inr (Or.inr (Or.inr rfl))) ha]
    exact this
  · intro a ha
    rw [remN_e] at ha
    rw [remG_c (Or.inr (Or.inr (Or.inr rfl))) ha]
    rcases h.hof _ (kp_lt ha).1 with z | ⟨j, hj, z⟩
    · exact Or.inl z
    · exact Or.inr ⟨j, lv_rem.mpr ⟨hj, fun w => (kp_lt ha).2 (by rw [z, w])⟩, z⟩
  · intro i hi
    obtain ⟨i', h3, h4, h5⟩ := hdel i hi
    rw [h5]
    exact lv_rem.mpr ⟨h.mlt i' h3, fun w => h4 (ri_mxi h i' i0 h3 hi0 (w.trans him.symm))⟩
  · intro j hj
    obtain ⟨hj, hjm⟩ := lv_rem.mp hj
    obtain ⟨i, hi, rfl⟩ := h.msur j hj
    rcases Nat.lt_trichotomy i i0 with z | z | z
    · exact ⟨i, by omega, by unfold delN; rw [if_pos z]⟩
    · exact absurd (by rw [z]; exact him) hjm
    · exact ⟨i - 1, by omega, by unfold delN; rw [if_neg (by omega), show i - 1 + 1 = i by omega]⟩
  · intro i i' hii hi'
    rw [e10]
    unfold delN
    by_cases z : i < i0
    · rw [if_pos z]
      by_cases z' : i' < i0
      · rw [if_pos z']; exact h.mord i i' hii (by omega)
      · rw [if_neg z']; exact h.mord i (i' + 1) (by omega) (by omega)
    · rw [if_neg z, if_neg (by omega)]
      exact h.mord (i + 1) (i' + 1) (by omega) (by omega)
  · intro j j' hj hj' e
    rw [e9] at e
    exact h.mname j j' (lv_rem.mp hj).1 (lv_rem.mp hj').1 e
  · intro j j' hj hj' e
    exact h.Ainj j j' (lv_rem.mp hj).1 (lv_rem.mp hj').1 e
  · intro j hj
    rw [e10, e11, e12]
    exact h.geo j (lv_rem.mp hj).1
  · intro r j hr hj
    obtain ⟨hj, hjm⟩ := lv_rem.mp hj
    rw [ec, ← h.rows r j hr hj]
    unfold owF
    by_cases z : u ≤ r ∧ r < u + (s + 15) / 16
    · rw [if_pos z]
      have := (h.rows r m hr hm).mpr ((cov_iff h1 h2 hu hr).mpr z)
      rw [this]
      refine ⟨fun q => (by cases q), fun q => absurd (h.Ainj m j hm hj (Option.some.inj q)).symm hjm⟩
    · rw [if_neg z]
  · intro r hr
    unfold owF
    by_cases z : u ≤ r ∧ r < u + (s + 15) / 16
    · rw [if_pos z]; exact Or.inl rfl
    · rw [if_neg z]
      rcases h.rown r hr with q | ⟨j, hj, q⟩
      · exact Or.inl q
      · refine Or.inr ⟨j, lv_rem.mpr ⟨hj, fun w => ?_⟩, q⟩
        rw [w] at q
        exact z ((cov_iff h1 h2 hu hr).mp ((h.rows r m hr hm).mp q))
  · intro j hj
    obtain ⟨hj, hjm⟩ := lv_rem.mp hj
    obtain ⟨l, a, b, c⟩ := h.pool j hj
    refine ⟨l, ?_, b, fun i => ?_⟩
    · rw [e9, e10, e11, e12, e13, ofP_rem hn2 hj.1 hmlt hjm]
      exact a
    · rw [c]
      constructor
      · rintro ⟨q1, q2⟩
        exact ⟨q1, by rw [e14 j i hj.1 q1, if_neg hjm]; exact q2⟩
      · rintro ⟨q1, q2⟩
        rw [e14 j i hj.1 q1, if_neg hjm] at q2
        exact ⟨q1, q2⟩
  · intro j i hj hi q
    rw [e14 j i hj hi] at q
    by_cases z : j = m
    · rw [if_pos z] at q
      exact absurd rfl q
    · rw [if_neg z] at q
      obtain ⟨a, b, c⟩ := h.need j i hj hi q
      refine ⟨lv_rem.mpr ⟨a, z⟩, lv_rem.mpr ⟨b, fun w => q ?_⟩, c⟩
      rw [w]
      exact hnn j a z
end RL5
