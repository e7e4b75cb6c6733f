/-! THE RELATION, 3: modules; what changes little -/
theorem pick_fn {α : Type} {P : Nat → α → Prop} {k : Nat} (d : α) (h : ∀ i, i < k → ∃ a, P i a) : ∃ F : Nat → α, ∀ i, i < k → P i (F i) := by
  refine ⟨fun i => if hi : i < k then Classical.choose (h i hi) else d, fun i hi => ?_⟩
  show P i (if hi : i < k then Classical.choose (h i hi) else d)
  rw [dif_pos hi]
  exact Classical.choose_spec (h i hi)
section RL3
variable {G : eg_G} {f : Nat → Int32} {g : Nat → Nat → Int32} {n t : Nat} {sa A : Nat → Nat} {k : Nat} {mx : Nat → Nat} {Fr : Nat → Option Nat} {PP : va_W} {T : Nat → Int32}
theorem ri_lists (h : RI G f g n t sa A k mx Fr PP T) : ∃ lf : Nat → List Nat, ∀ i, i < k → MOi G PP (A (mx i)) (mvs (g 9 (mx i)) (g 10 (mx i)) (g 11 (mx i)) (g 12 (mx i)) (g 13 (mx i)) (nI (rcnt (ofP g n (mx i)) 40))) (lf i).length (nfL A (lf i)) ∧ (lf i).Nodup ∧ (∀ j, j ∈ lf i ↔ j < 12 ∧ ¬ g 14 (12 * mx i + j) = 0) := pick_fn [] (ri_MO h)
theorem ri_nd (h : RI G f g n t sa A k mx Fr PP T) {lf : Nat → List Nat} (hl : ∀ i, i < k → ∀ j, j ∈ lf i ↔ j < 12 ∧ ¬ g 14 (12 * mx i + j) = 0) {i : Nat} {m : Nat} (hi : i < k) (hm : lv g m) : ndQ (fun i => A (mx i)) (fun i => (lf i).length) (fun i => nfL A (lf i)) (A m) i = (decide (¬ g 14 (12 * mx i + m) = 0)) := by
  unfold ndQ
  have hmi := h.mlt i hi
  have hin : rany (fun c => decide (lsF (nfL A (lf i)) (lf i).length c = some (A m))) (lf i).length = decide (m ∈ lf i) := nfL_any (fun u hu e => h.Ainj u m (h.need _ _ hmi.1 ((hl i hi u).mp hu).1 ((hl i hi u).mp hu).2).2.1 hm e)
  show (decide (¬ A (mx i) = A m) && rany (fun c => decide (lsF (nfL A (lf i)) (lf i).length c = some (A m))) (lf i).length) = _
  rw [hin]
  by_cases z : g 14 (12 * mx i + m) = 0
  · rw [decide_eq_false (p := m ∈ lf i) (fun w => ((hl i hi m).mp w).2 z), Bool.and_false, decide_eq_false (p := ¬ g 14 (12 * mx i + m) = 0) (fun w => w z)]
  · have hne := (h.need _ _ hmi.1 hm.1 z).2.2
    rw [decide_eq_true (p := m ∈ lf i) ((hl i hi m).mpr ⟨hm.1, z⟩), decide_eq_true (p := ¬ g 14 (12 * mx i + m) = 0) z, decide_eq_true (p := ¬ A (mx i) = A m) (fun w => hne (h.Ainj _ _ hmi hm w).symm)]
    rfl
theorem ri_ndc (h : RI G f g n t sa A k mx Fr PP T) {lf : Nat → List Nat} (hl : ∀ i, i < k → ∀ j, j ∈ lf i ↔ j < 12 ∧ ¬ g 14 (12 * mx i + j) = 0) {m : Nat} (hm : lv g m) : rcnt (ndQ (fun i => A (mx i)) (fun i => (lf i).length) (fun i => nfL A (lf i)) (A m)) k = rcnt (nxP g 3 m) 12 := by
  refine rcnt_bij (ri_mxi h) (fun i hi => (h.mlt i hi).1) (fun i hi => ?_) (fun j hj hp => ?_)
  · rw [ri_nd h hl hi hm]
    unfold nxP
    rw [decide_eq_true (h.mlt i hi).2, Bool.true_and, if_pos rfl]
  · unfold nxP at hp
    rw [Bool.and_eq_true] at hp
    exact h.msur j ⟨hj, of_decide_eq_true hp.1⟩
theorem ri_len (h : RI G f g n t sa A k mx Fr PP T) {l : List Nat} {m : Nat} (hm : lv g m) (hd : l.Nodup) (hl : ∀ j, j ∈ l ↔ j < 12 ∧ ¬ g 14 (12 * m + j) = 0) : l.length = rcnt (nxP g 4 m) 12 := by
  rw [rcnt_len]
  refine len_same hd (List.nodup_range.filter _) (fun j => ?_)
  rw [hl, List.mem_filter, List.mem_range]
  unfold nxP
  rw [if_neg (by decide), Bool.and_eq_true]
  constructor
  · rintro ⟨h1, h2⟩
    exact ⟨h1, decide_eq_true (h.need m j hm.1 h1 h2).2.1.2, decide_eq_true h2⟩
  · rintro ⟨h1, h2, h3⟩
    exact ⟨h1, of_decide_eq_true h3⟩
theorem ri_module (h : RI G f g n t sa A k mx Fr PP T) {lf : Nat → List Nat} (hl : ∀ i, i < k → (lf i).Nodup ∧ ∀ j, j ∈ lf i ↔ j < 12 ∧ ¬ g 14 (12 * mx i + j) = 0) (v w : Int32) : moR k (fun i => g 9 (mx i)) (fun i => g 10 (mx i)) (fun i => g 11 (mx i)) (fun i => nI (rcnt (ofP g n (mx i)) 40)) (fun i => A (mx i)) (fun i => (lf i).length) (fun i => nfL A (lf i)) v w = mdI g n v w := by
  have e := ri_find h v
  unfold moR mdI
  cases ho : tfind (fun i => decide (g 9 (mx i) = v)) k with
  | none =>
    rw [ho] at e
    rw [← e]
    rfl
  | some i =>
    rw [ho] at e
    rw [← e]
    have hi := (tfind_lt ho).1
    have hm := h.mlt i hi
    show (if w = 0 then g 10 (mx i) else if w = 1 then g 11 (mx i) else if w = 2 then nI (rcnt (ofP g n (mx i)) 40) else if w = 3 then nI (rcnt (ndQ (fun i => A (mx i)) (fun i => (lf i).length) (fun i => nfL A (lf i)) (A (mx i))) k) else if w = 4 then nI (lf i).length else -1) = mdC g n (mx i) w
    unfold mdC
    by_cases w0 : w = 0
    · rw [if_pos w0, if_pos w0]
    rw [if_neg w0, if_neg w0]
    by_cases w1 : w = 1
    · rw [if_pos w1, if_pos w1]
    rw [if_neg w1, if_neg w1]
    by_cases w2 : w = 2
    · rw [if_pos w2, if_pos w2]
    rw [if_neg w2, if_neg w2]
    by_cases w3 : w = 3
    · rw [if_pos w3, if_pos (Or.inl w3), w3, ri_ndc h (fun i hi => (hl i hi).2) hm]
    rw [if_neg w3]
    by_cases w4 : w = 4
    · rw [if_pos w4, if_pos (Or.inr w4), w4, ri_len h hm (hl i hi).1 (hl i hi).2]
    · rw [if_neg w4, if_neg (fun z => z.elim w3 w4)]
/-- only memory, registers, tape and the loader's numbers change -/
theorem ri_g (h : RI G f g n t sa A k mx Fr PP T) {f' : Nat → Int32} {g' : Nat → Nat → Int32} {t' : Nat} {T' : Nat → Int32} (e3 : f' 3 = f 3) (ht : f' 15 = nI t') (ht2 : t' ≤ 1200) (hse : f' 2 = 0 ∨ f' 2 = 1) (hM : ∀ i, g' 1 i &&& 255 = g' 1 i) (hTb : ∀ i, T' i &&& 255 = T' i) (hT : ∀ i, i < t' → T' i = g' 16 i) (e : ∀ c, 4 ≤ c → c ≤ 14 → g' c = g c) : RI G f' g' n t' sa A k mx Fr PP T' := by
  have e4 := e 4 (by decide) (by decide)
  have e5 := e 5 (by decide) (by decide)
  have e6 := e 6 (by decide) (by decide)
  have e7 := e 7 (by decide) (by decide)
  have e8 := e 8 (by decide) (by decide)
  have e9 := e 9 (by decide) (by decide)
  have e10 := e 10 (by decide) (by decide)
  have e11 := e 11 (by decide) (by decide)
  have e12 := e 12 (by decide) (by decide)
  have e13 := e 13 (by decide) (by decide)
  have e14 := e 14 (by decide) (by decide)
  have el : lv g' = lv g := by funext j; unfold lv; rw [e8]
  have ec : cov g' = cov g := by funext j r; unfold cov; rw [e10, e11]
  have es : sEn g' = sEn g := by funext a b s; unfold sEn; rw [e4, e5, e6, e7]
  have eo : ofP g' = ofP g := by funext a b s; unfold ofP; rw [e7]
  unfold RI at h ⊢
  rw [el, ec, es, eo, e4, e7, e9, e10, e11, e12, e13, e14]
  exact ⟨e3.trans h.1, h.2.1, ht, ht2, hse, hM, hTb, hT, h.2.2.2.2.2.2.2.2⟩
theorem SL_g {g' : Nat → Nat → Int32} (e : ∀ c, 4 ≤ c → c ≤ 14 → g' c = g c) : SL g' sa A n = SL g sa A n := by
  unfold SL
  have es : sEn g' = sEn g := by funext a b s; unfold sEn; rw [e 4 (by decide) (by decide), e 5 (by decide) (by decide), e 6 (by decide) (by decide), e 7 (by decide) (by decide)]
  rw [es]
theorem gd_g {g' : Nat → Nat → Int32} (e : ∀ c, 4 ≤ c → c ≤ 14 → g' c = g c) {f' : Nat → Int32} (e2 : f' 2 = f 2) : gdB f' g' = gdB f g := gdB_up e2 (e 8 (by decide) (by decide)) (e 10 (by decide) (by decide)) (e 12 (by decide) (by decide))
theorem gMR_e (M R : Nat → Int32) : ∀ c, 4 ≤ c → c ≤ 14 → gMR g M R c = g c := fun c h1 h2 => by
  unfold gMR
  rw [va_up_ne _ _ (by omega), va_up_ne _ _ (by omega)]
theorem gMR_1 (M R : Nat → Int32) : gMR g M R 1 = M := by
  unfold gMR
  rw [va_up_ne _ _ (by decide), va_up_self]
theorem gMR_r (M R : Nat → Int32) : gMR g M R 22 = R := by
  unfold gMR
  rw [va_up_self]
theorem gMR_16 (M R : Nat → Int32) : gMR g M R 16 = g 16 := by
  unfold gMR
  rw [va_up_ne _ _ (by decide), va_up_ne _ _ (by decide)]
end RL3
