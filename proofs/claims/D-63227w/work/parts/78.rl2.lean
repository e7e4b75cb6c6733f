/-! THE RELATION, 2: looks -/
section RL2
variable {G : eg_G} {f : Nat → Int32} {g : Nat → Nat → Int32} {n t : Nat} {sa A : Nat → Nat} {k : Nat} {mx : Nat → Nat} {Fr : Nat → Option Nat} {PP : va_W} {T : Nat → Int32}
theorem ri_mxi (h : RI G f g n t sa A k mx Fr PP T) : ∀ i i', i < k → i' < k → mx i = mx i' → i = i' := fun i i' hi hi' e => by
  rcases Nat.lt_trichotomy i i' with z | z | z
  · have := h.mord i i' z hi'
    rw [e] at this
    exact (Int32.lt_irrefl this).elim
  · exact z
  · have := h.mord i' i z hi
    rw [e] at this
    exact (Int32.lt_irrefl this).elim
theorem tmod_of {x : Int32} {j : Nat} (h : tmod g x = some j) : lv g j ∧ g 9 j = x := by
  obtain ⟨h1, h2, -⟩ := tfind_lt h
  rw [Bool.and_eq_true] at h2
  exact ⟨⟨h1, of_decide_eq_true h2.1⟩, of_decide_eq_true h2.2⟩
theorem tmod_no {x : Int32} (h : tmod g x = none) {j : Nat} (hj : lv g j) : ¬ g 9 j = x := fun z => by
  have := tfind_no h j hj.1
  rw [decide_eq_true hj.2, decide_eq_true z] at this
  exact absurd this (by decide)
theorem ri_find (h : RI G f g n t sa A k mx Fr PP T) (x : Int32) : (tfind (fun i => decide (g 9 (mx i) = x)) k).map mx = tmod g x := by
  cases hm : tmod g x with
  | none =>
    rw [tfind_none (fun i hi => decide_eq_false (tmod_no hm (h.mlt i hi)))]
    rfl
  | some j =>
    obtain ⟨hj, hx⟩ := tmod_of hm
    obtain ⟨i, hi, rfl⟩ := h.msur j hj
    have e := tfind_some (p := fun i => decide (g 9 (mx i) = x)) hi (decide_eq_true hx) (fun i' hi' => decide_eq_false (fun z => by
      have := ri_mxi h i' i (by omega) hi (h.mname _ _ (h.mlt i' (by omega)) hj (z.trans hx.symm))
      omega))
    rw [e]
    rfl
theorem rwP_cov {r m : Nat} (hm : m < 12) : rwP g (nI r) m = false ↔ lv g m ∧ cov g m r := by
  unfold rwP lv cov
  simp [hm, and_assoc]
theorem ri_fre (h : RI G f g n t sa A k mx Fr PP T) : ∀ r, r < 208 → fre Fr r = rowP g r := fun r hr => by
  unfold fre rowP rwB
  rcases h.rown r hr with z | ⟨j, hj, z⟩
  · rw [decide_eq_true z]
    symm
    refine rall_iff.mpr (fun m hm => ?_)
    cases hb : rwP g (nI r) m with
    | true => rfl
    | false =>
      obtain ⟨h1, h2⟩ := (rwP_cov hm).mp hb
      have := (h.rows r m hr h1).mpr h2
      rw [z] at this
      cases this
  · rw [decide_eq_false (by rw [z]; simp)]
    symm
    cases hb : rall (rwP g (nI r)) 12 with
    | false => rfl
    | true =>
      have h1 := rall_iff.mp hb j hj.1
      rw [(rwP_cov hj.1).mpr ⟨hj, (h.rows r j hr hj).mp z⟩] at h1
      cases h1
theorem ri_room (h : RI G f g n t sa A k mx Fr PP T) (N : Nat) : rmI Fr N = match rwF (rowP g) N 208 with | some k => nI (k + 1 - N) | none => -1 := by
  unfold rmI
  rw [rwF_congr (ri_fre h)]
  cases rwF (rowP g) N 208 <;> rfl
theorem ri_cnt (h : RI G f g n t sa A k mx Fr PP T) : rcnt (mdP g) 12 = k := by
  have e : rcnt (fun _ => true) k = rcnt (mdP g) 12 := rcnt_bij (ri_mxi h) (fun i hi => (h.mlt i hi).1) (fun i hi => (decide_eq_true (h.mlt i hi).2).symm) (fun j hj hp => h.msur j ⟨hj, of_decide_eq_true hp⟩)
  rw [← e, rcnt_len, List.filter_eq_self.mpr (fun _ _ => rfl), List.length_range]
theorem ri_count (h : RI G f g n t sa A k mx Fr PP T) (w : Int32) : cnR k n Fr (f 15) w = cnI f g w := by
  unfold cnR cnI
  rw [ri_cnt h, h.hn, rcnt_congr (ri_fre h), rmx_congr (ri_fre h)]
/-- the next module above a base -/
theorem nxM_spec (last : Int32) : ∀ N, (nxM g last N = none ∧ ∀ j, j < N → ¬ g 8 j = 0 → ¬ last < g 10 j) ∨ ∃ b, nxM g last N = some b ∧ b < N ∧ ¬ g 8 b = 0 ∧ last < g 10 b ∧ ∀ j, j < N → ¬ g 8 j = 0 → last < g 10 j → g 10 b ≤ g 10 j
  | 0 => Or.inl ⟨rfl, fun j hj => absurd hj (Nat.not_lt_zero _)⟩
  | m + 1 => by
    rw [nxM]
    by_cases hc : (¬ g 8 m = 0) ∧ last < g 10 m ∧ (∀ b, nxM g last m = some b → g 10 m < g 10 b)
    · rw [if_pos hc]
      refine Or.inr ⟨m, rfl, by omega, hc.1, hc.2.1, fun j hj h8 hl => ?_⟩
      rcases Nat.lt_or_ge j m with z | z
      · rcases nxM_spec last m with ⟨-, h2⟩ | ⟨b, h1, h2, h3, h4, h5⟩
        · exact absurd hl (h2 j z h8)
        · exact Int32.le_trans (Int32.le_of_lt (hc.2.2 b h1)) (h5 j z h8 hl)
      · rw [show j = m by omega]
        exact Int32.le_refl _
    · rw [if_neg hc]
      rcases nxM_spec last m with ⟨h1, h2⟩ | ⟨b, h1, h2, h3, h4, h5⟩
      · refine Or.inl ⟨h1, fun j hj h8 hl => ?_⟩
        rcases Nat.lt_or_ge j m with z | z
        · exact h2 j z h8 hl
        · rw [show j = m by omega] at h8 hl
          exact hc ⟨h8, hl, fun b hb => by rw [h1] at hb; cases hb⟩
      · refine Or.inr ⟨b, h1, by omega, h3, h4, fun j hj h8 hl => ?_⟩
        rcases Nat.lt_or_ge j m with z | z
        · exact h5 j z h8 hl
        · rw [show j = m by omega] at h8 hl ⊢
          by_cases hlt : g 10 m < g 10 b
          · exact absurd ⟨h8, hl, fun b' hb => by rw [h1] at hb; cases hb; exact hlt⟩ hc
          · exact Int32.not_lt.mp hlt
theorem ri_pos (h : RI G f g n t sa A k mx Fr PP T) {j : Nat} (hj : lv g j) : (0 : Int32) < g 10 j := by
  obtain ⟨u, s, w, h1, -, -, h4, -, -, h7⟩ := h.geo j hj
  rw [h1]
  exact nI_lt (a := 0) (by omega) (by omega)
theorem ri_le (h : RI G f g n t sa A k mx Fr PP T) {i i' : Nat} (hi : i ≤ i') (hi' : i' < k) : g 10 (mx i) ≤ g 10 (mx i') := by
  rcases Nat.lt_or_ge i i' with z | z
  · exact Int32.le_of_lt (h.mord i i' z hi')
  · rw [show i = i' by omega]; exact Int32.le_refl _
/-- all below the i-th have bases up to last, the rest above -/
theorem ri_nx (h : RI G f g n t sa A k mx Fr PP T) {i : Nat} {last : Int32} (h1 : ∀ i', i' < i → i' < k → g 10 (mx i') ≤ last) (h2 : ∀ i', i ≤ i' → i' < k → last < g 10 (mx i')) : nxM g last 12 = if i < k then some (mx i) else none := by
  rcases nxM_spec (g := g) last 12 with ⟨e, hn⟩ | ⟨b, e, hb, h8, hl, hm⟩
  · rw [e]
    by_cases z : i < k
    · exact absurd (h2 i (Nat.le_refl _) z) (hn _ (h.mlt i z).1 (h.mlt i z).2)
    · rw [if_neg z]
  · obtain ⟨i', hi', rfl⟩ := h.msur b ⟨hb, h8⟩
    have hge : i ≤ i' := by
      rcases Nat.lt_or_ge i' i with z | z
      · exact absurd hl (Int32.not_lt.mpr (h1 i' z hi'))
      · exact z
    have hik : i < k := by omega
    rw [e, if_pos hik]
    have h3 := hm (mx i) (h.mlt i hik).1 (h.mlt i hik).2 (h2 i (Nat.le_refl _) hik)
    rcases Nat.lt_or_ge i i' with z | z
    · exact absurd (h.mord i i' z hi') (Int32.not_lt.mpr h3)
    · rw [show i = i' by omega]
theorem ri_tat (h : RI G f g n t sa A k mx Fr PP T) : ∀ c i (last : Int32), (∀ i', i' < i → i' < k → g 10 (mx i') ≤ last) → (∀ i', i ≤ i' → i' < k → last < g 10 (mx i')) → tat g c last = if i + c < k then g 9 (mx (i + c)) else -1
  | 0, i, last, h1, h2 => by
    have e := ri_nx h h1 h2
    by_cases z : i < k
    · rw [if_pos z] at e
      rw [tat_0 e, if_pos (by omega)]
      rfl
    · rw [if_neg z] at e
      rw [tat_none e, if_neg (by omega)]
  | c + 1, i, last, h1, h2 => by
    have e := ri_nx h h1 h2
    by_cases z : i < k
    · rw [if_pos z] at e
      rw [tat_s e, ri_tat h c (i + 1) _ (fun i' hi' hk' => ri_le h (by omega) z) (fun i' hi' hk' => h.mord i i' (by omega) hk'), show i + (c + 1) = i + 1 + c by omega]
    · rw [if_neg z] at e
      rw [tat_none e, if_neg (by omega)]
theorem ri_at (h : RI G f g n t sa A k mx Fr PP T) (v : Int32) : (if v < 0 ∨ nI k ≤ v then -1 else g 9 (mx v.toNatClampNeg)) = atI g v := by
  unfold atI
  have hk := h.hk
  by_cases hv : v < 0
  · rw [if_pos (Or.inl hv), if_pos hv]
  · rw [if_neg hv]
    obtain ⟨j, hj, rfl⟩ := nI_of hv
    rw [ri_tat h (nI j).toNatClampNeg 0 0 (fun i' hi' => absurd hi' (Nat.not_lt_zero _)) (fun i' _ hi' => ri_pos h (h.mlt i' hi')), nI_clamp hj, Nat.zero_add]
    by_cases z : j < k
    · rw [if_pos z, if_neg (fun w => w.elim hv (fun w => absurd ((nI_leI (by omega) hj).mp w) (by omega)))]
    · rw [if_neg z, if_pos (Or.inr ((nI_leI (by omega) hj).mpr (by omega)))]
/-- the name of the module at an address -/
def nmO (g : Nat → Nat → Int32) (A : Nat → Nat) (a : Nat) : Int32 := g 9 ((tfind (fun j => decide (¬ g 8 j = 0) && decide (A j = a)) 12).getD 0)
theorem ri_nmO (h : RI G f g n t sa A k mx Fr PP T) {j : Nat} (hj : lv g j) : nmO g A (A j) = g 9 j := by
  unfold nmO
  cases hs : tfind (fun i => decide (¬ g 8 i = 0) && decide (A i = A j)) 12 with
  | none =>
    have := tfind_no hs j hj.1
    rw [decide_eq_true hj.2] at this
    simp at this
  | some i =>
    obtain ⟨h1, h2, -⟩ := tfind_lt hs
    rw [Bool.and_eq_true] at h2
    have := h.Ainj i j ⟨h1, of_decide_eq_true h2.1⟩ hj (of_decide_eq_true h2.2)
    rw [this]
    rfl
theorem ow_n {v : Int32} (h : v < 0) : ow A v = none := if_pos h
theorem ow_s {j : Nat} (h : j < 2 ^ 31) : ow A (nI j) = some (A j) := by rw [ow, if_neg (nI_pos h), nI_clamp h]
theorem ri_ow (h : RI G f g n t sa A k mx Fr PP T) {s : Nat} (hs : s < n) : (g 7 s < 0 ∧ ow A (g 7 s) = none) ∨ ∃ j, lv g j ∧ g 7 s = nI j ∧ ¬ g 7 s < 0 ∧ ow A (g 7 s) = some (A j) ∧ (g 7 s).toNatClampNeg = j := by
  rcases h.hof s hs with z | ⟨j, hj, z⟩
  · exact Or.inl ⟨by rw [z]; decide, by rw [z]; rfl⟩
  · have := hj.1
    exact Or.inr ⟨j, hj, z, by rw [z]; exact nI_pos (by omega), by rw [z]; exact ow_s (by omega), by rw [z]; exact nI_clamp (by omega)⟩
theorem ri_lookup (h : RI G f g n t sa A k mx Fr PP T) (v w : Int32) : lkR (SL g sa A n) (nmO g A) v w = lkI g n v w := by
  unfold lkR lkI
  rw [sfind_SL]
  cases hs : tsym g n v with
  | none => rfl
  | some s =>
    have hsn := (tfind_lt hs).1
    show (if w = 0 then g 6 s else if w = 1 then g 5 s else if w = 2 then (match ow A (g 7 s) with | none => 0 | some a => nmO g A a) else -1) = if w = 0 then g 6 s else if w = 1 then g 5 s else if w = 2 then (if g 7 s < 0 then 0 else g 9 (g 7 s).toNatClampNeg) else -1
    rcases ri_ow h hsn with ⟨h1, h2⟩ | ⟨j, hj, h1, h2, h3, h4⟩
    · rw [h2, if_pos h1]
    · rw [h3, if_neg h2, h4, show (match some (A j) with | none => 0 | some a => nmO g A a) = nmO g A (A j) from rfl, ri_nmO h hj]
theorem ri_names (h : RI G f g n t sa A k mx Fr PP T) : ((SL g sa A n).map (fun e => e.2.1)).Nodup := by
  unfold SL
  rw [List.map_map, List.Nodup, List.pairwise_map]
  refine List.Pairwise.imp_of_mem ?_ List.nodup_range
  intro s s' h1 h2 hne e
  exact hne (h.hnd s s' (List.mem_range.mp h1) (List.mem_range.mp h2) e)
theorem ri_PS (h : RI G f g n t sa A k mx Fr PP T) : ∀ e ∈ SL g sa A n, syC e ∈ PP := fun e he => by
  obtain ⟨s, hs, rfl⟩ := List.mem_map.mp he
  exact h.hPS s (List.mem_range.mp hs)
theorem ri_MO (h : RI G f g n t sa A k mx Fr PP T) : ∀ i, i < k → ∃ l : List Nat, MOi G PP (A (mx i)) (mvs (g 9 (mx i)) (g 10 (mx i)) (g 11 (mx i)) (g 12 (mx i)) (g 13 (mx i)) (nI (rcnt (ofP g n (mx i)) 40))) l.length (nfL A l) ∧ l.Nodup ∧ (∀ j, j ∈ l ↔ j < 12 ∧ ¬ g 14 (12 * mx i + j) = 0) := fun i hi => h.pool _ (h.mlt i hi)
theorem nd12 {l : List Nat} (h : l.Nodup) (h2 : ∀ i ∈ l, i < 12) : l.length ≤ 12 := by
  have e := len_same (l' := (List.range 12).filter (fun i => decide (i ∈ l))) h (List.nodup_range.filter _) (fun i => by
    rw [List.mem_filter, List.mem_range, decide_eq_true_eq]
    exact ⟨fun hi => ⟨h2 i hi, hi⟩, fun hi => hi.2⟩)
  have e2 := List.length_filter_le (fun i => decide (i ∈ l)) (List.range 12)
  rw [List.length_range] at e2
  omega
end RL2
