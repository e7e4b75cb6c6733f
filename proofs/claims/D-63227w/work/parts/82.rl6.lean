/-! THE RELATION, 6: a module enters, parts -/
theorem by_hi {x : Int32} (h : x &&& 255 = x) {i : Nat} (hi : 8 ≤ i) : x.toBitVec.getLsbD i = false := by
  rcases Nat.lt_or_ge i 32 with z | z
  · rw [← h, Int32.toBitVec_and, BitVec.getLsbD_and, show (255 : Int32).toBitVec = 255#32 from rfl, b255 z, decide_eq_false (by omega), Bool.and_false]
  · exact BitVec.getLsbD_of_ge _ _ z
theorem byK_wd {T : Nat → Int32} {a : Nat} (h : ∀ k, k < 4 → T (a + k) &&& 255 = T (a + k)) {k : Nat} (hk : k < 4) : byK (wdA T a) k = T (a + k) := by
  apply Int32.toBitVec_inj.mp
  apply BitVec.eq_of_getLsbD_eq
  intro i hi
  have h0 : ∀ i, 8 ≤ i → (T a).toBitVec.getLsbD i = false := fun i z => by_hi (h 0 (by decide)) z
  have h1 : ∀ i, 8 ≤ i → (T (a + 1)).toBitVec.getLsbD i = false := fun i z => by_hi (h 1 (by decide)) z
  have h2 : ∀ i, 8 ≤ i → (T (a + 2)).toBitVec.getLsbD i = false := fun i z => by_hi (h 2 (by decide)) z
  have h3 : ∀ i, 8 ≤ i → (T (a + 3)).toBitVec.getLsbD i = false := fun i z => by_hi (h 3 (by decide)) z
  rw [byK_bit _ hk hi]
  unfold wdA
  rw [Int32.toBitVec_or, Int32.toBitVec_or, Int32.toBitVec_or, sh_e _ _ 8 (by decide) (by decide), sh_e _ _ 16 (by decide) (by decide), sh_e _ _ 24 (by decide) (by decide), BitVec.getLsbD_or, BitVec.getLsbD_or, BitVec.getLsbD_or, BitVec.getLsbD_shiftLeft, BitVec.getLsbD_shiftLeft, BitVec.getLsbD_shiftLeft]
  have hc : k = 0 ∨ k = 1 ∨ k = 2 ∨ k = 3 := by omega
  by_cases h8 : i < 8
  · rcases hc with rfl | rfl | rfl | rfl
    · simp [h8, show i < 16 by omega, show i < 24 by omega]
    · rw [h0 (8 * 1 + i) (by omega)]
      simp [h8, show 8 + i < 32 by omega, show 8 + i < 16 by omega, show 8 + i < 24 by omega]
    · rw [h0 (8 * 2 + i) (by omega), h1 (8 * 2 + i - 8) (by omega)]
      simp [h8, show 16 + i < 32 by omega, show 16 + i < 24 by omega]
    · rw [h0 (8 * 3 + i) (by omega), h1 (8 * 3 + i - 8) (by omega), h2 (8 * 3 + i - 16) (by omega)]
      simp [h8, show 24 + i < 32 by omega]
  · rw [decide_eq_false h8, Bool.false_and, by_hi (h k hk) (by omega)]
theorem cpM_wr {M T : Nat → Int32} {ad N' : Nat} : ∀ N, N ≤ N' → (∀ i, i < 32 + 4 * N → T i &&& 255 = T i) → cpM M T ad (4 * N) = wrM M ad (imgF T N') N
  | 0, _, _ => rfl
  | N + 1, hN, hb => by
    have ih := cpM_wr (M := M) (T := T) (ad := ad) (N' := N') N (by omega) (fun i hi => hb i (by omega))
    have e : imgF T N' N = wdA T (32 + 4 * N) := if_pos (by omega)
    have hk : ∀ k, k < 4 → byK (wdA T (32 + 4 * N)) k = T (32 + 4 * N + k) := fun k hk => byK_wd (fun k hk => hb _ (by omega)) hk
    rw [show 4 * (N + 1) = 4 * N + 1 + 1 + 1 + 1 by omega, cpM, cpM, cpM, cpM, ih, wrM, e, putB, putB, putB, putB, putB, hk 0 (by decide), hk 1 (by decide), hk 2 (by decide), hk 3 (by decide)]
    rfl
theorem cpM_by {M T : Nat → Int32} {ad L : Nat} (hM : ∀ i, M i &&& 255 = M i) (hb : ∀ i, i < L → T (32 + i) &&& 255 = T (32 + i)) : ∀ j, j ≤ L → ∀ i, cpM M T ad j i &&& 255 = cpM M T ad j i
  | 0, _, i => hM i
  | j + 1, hj, i => by
    rw [cpM]
    by_cases z : i = ad + j
    · rw [z, pk_us]; exact hb j (by omega)
    · rw [pk_un z]; exact cpM_by hM hb j (by omega) i
theorem byK_by (v : Int32) (k : Nat) : byK v k &&& 255 = byK v k := by
  unfold byK
  apply Int32.toBitVec_inj.mp
  rw [Int32.toBitVec_and, Int32.toBitVec_and, BitVec.and_assoc]
  congr 1
theorem putB_by2 {T : Nat → Int32} {a : Nat} {v : Int32} {B : Nat} (h : ∀ i, i < B → T i &&& 255 = T i) : ∀ n i, i < B → putB T a v n i &&& 255 = putB T a v n i
  | 0, i, hi => h i hi
  | n + 1, i, hi => by
    rw [putB]
    by_cases z : i = a + n
    · rw [z, pk_us]; exact byK_by v n
    · rw [pk_un z]; exact putB_by2 h n i hi
theorem mnT_by {g : Nat → Nat → Int32} {n : Nat} {T : Nat → Int32} {L M E B : Nat} {ad : Int32} (h : ∀ i, i < B → T i &&& 255 = T i) : ∀ k i, i < B → mnT g n T L M E ad k i &&& 255 = mnT g n T L M E ad k i
  | 0, i, hi => h i hi
  | k + 1, i, hi => by
    rw [mnT, mndT]
    exact putB_by2 (mnT_by h k) 4 i hi
/-- the new symbols' numbers -/
def nvE (T : Nat → Int32) (L M ad m c j : Nat) : Int32 := if c = 4 then wdA T (exA L M j) else if c = 5 then wdA T (exA L M j + 4) else if c = 6 then nI ad + wdA T (exA L M j + 8) else nI m
theorem exG_c {g : Nat → Nat → Int32} {n : Nat} {T : Nat → Int32} {L M ad m c : Nat} (hc : c47 c) : ∀ k i, exG g n T L M ad m k c i = if n ≤ i ∧ i < n + k then nvE T L M ad m c (i - n) else g c i
  | 0, i => by rw [if_neg (by omega)]; rfl
  | k + 1, i => by
    have ih := exG_c (g := g) (n := n) (T := T) (L := L) (M := M) (ad := ad) (m := m) hc k i
    have e : exG g n T L M ad m (k + 1) c = upd (exG g n T L M ad m k c) (n + k) (nvE T L M ad m c k) := by
      rw [exG]
      unfold addG nvE
      rcases hc with rfl | rfl | rfl | rfl <;> rfl
    rw [e]
    by_cases z : i = n + k
    · rw [z, pk_us, if_pos (by omega), show n + k - n = k by omega]
    · rw [pk_un z, ih]
      by_cases y : n ≤ i ∧ i < n + k
      · rw [if_pos y, if_pos (by omega)]
      · rw [if_neg y, if_neg (by omega)]
theorem exG_o {g : Nat → Nat → Int32} {n : Nat} {T : Nat → Int32} {L M ad m c k : Nat} (hc : ¬ c47 c) : exG g n T L M ad m k c = g c := exG_16 k c (fun z => hc (Or.inl z)) (fun z => hc (Or.inr (Or.inl z))) (fun z => hc (Or.inr (Or.inr (Or.inl z)))) (fun z => hc (Or.inr (Or.inr (Or.inr z))))
section BR3
variable {g : Nat → Nat → Int32} {n L M E m ad : Nat} {nm gu le : Int32} {U : Nat → Int32}
theorem br3_c {c i : Nat} (hc : c47 c) : br3 g n L M E m ad nm gu le U c i = if n ≤ i ∧ i < n + E then nvE U L M ad m c (i - n) else g c i := by
  unfold br3
  rw [exG_c hc]
  have e : va_up (entG g U m ad L nm gu le) 14 (ndN g n U L m M) c = g c := by
    unfold entG en6 en5 en4 en3 en2 en1
    rcases hc with rfl | rfl | rfl | rfl <;> rfl
  rw [e]
theorem br3_1 : br3 g n L M E m ad nm gu le U 1 = cpM (g 1) U ad L := by
  unfold br3
  rw [exG_o (by unfold c47; omega)]
  rfl
theorem br3_8 : br3 g n L M E m ad nm gu le U 8 = upd (g 8) m 1 := by
  unfold br3
  rw [exG_o (by unfold c47; omega)]
  rfl
theorem br3_9 : br3 g n L M E m ad nm gu le U 9 = upd (g 9) m nm := by
  unfold br3
  rw [exG_o (by unfold c47; omega)]
  rfl
theorem br3_10 : br3 g n L M E m ad nm gu le U 10 = upd (g 10) m (nI ad) := by
  unfold br3
  rw [exG_o (by unfold c47; omega)]
  rfl
theorem br3_11 : br3 g n L M E m ad nm gu le U 11 = upd (g 11) m (nI L) := by
  unfold br3
  rw [exG_o (by unfold c47; omega)]
  rfl
theorem br3_12 : br3 g n L M E m ad nm gu le U 12 = upd (g 12) m gu := by
  unfold br3
  rw [exG_o (by unfold c47; omega)]
  rfl
theorem br3_13 : br3 g n L M E m ad nm gu le U 13 = upd (g 13) m le := by
  unfold br3
  rw [exG_o (by unfold c47; omega)]
  rfl
theorem br3_14 : br3 g n L M E m ad nm gu le U 14 = ndN g n U L m M := by
  unfold br3
  rw [exG_o (by unfold c47; omega), va_up_self]
theorem br3_22 : br3 g n L M E m ad nm gu le U 22 = g 22 := by
  unfold br3
  rw [exG_o (by unfold c47; omega)]
  rfl
theorem lv_br {j : Nat} (hm : m < 12) : lv (br3 g n L M E m ad nm gu le U) j ↔ lv g j ∨ j = m := by
  unfold lv
  rw [br3_8]
  by_cases z : j = m
  · rw [z, pk_us]; simp [hm]
  · rw [pk_un z]; simp [z]
theorem ndN_e {T : Nat → Int32} {Lf : Nat} : ∀ k x, ndN g n T Lf m k x = if ∃ i, i ∈ ndL g n T Lf k ∧ x = 12 * m + i then 1 else g 14 x
  | 0, x => by rw [if_neg (fun ⟨i, h, _⟩ => absurd h List.not_mem_nil)]; rfl
  | k + 1, x => by
    have ih := ndN_e (T := T) (Lf := Lf) k
    rw [ndN, ndL]
    by_cases hneg : g 7 ((tsym g n (wdA T (imA Lf k))).getD 0) < 0
    · rw [if_pos hneg, if_pos hneg]
      exact ih x
    · rw [if_neg hneg, if_neg hneg]
      generalize (g 7 ((tsym g n (wdA T (imA Lf k))).getD 0)).toNatClampNeg = v
      by_cases hx : x = 12 * m + v
      · rw [hx, pk_us]
        by_cases hin : v ∈ ndL g n T Lf k
        · rw [if_pos hin, if_pos ⟨v, hin, rfl⟩]
        · rw [if_neg hin, if_pos ⟨v, by simp, rfl⟩]
      · rw [pk_un hx, ih x]
        have : (∃ i, i ∈ (if v ∈ ndL g n T Lf k then ndL g n T Lf k else ndL g n T Lf k ++ [v]) ∧ x = 12 * m + i) ↔ ∃ i, i ∈ ndL g n T Lf k ∧ x = 12 * m + i := by
          by_cases hin : v ∈ ndL g n T Lf k
          · rw [if_pos hin]
          · rw [if_neg hin]
            constructor
            · rintro ⟨i, h1, h2⟩
              rcases List.mem_append.mp h1 with q | q
              · exact ⟨i, q, h2⟩
              · rw [List.mem_singleton.mp q] at h2
                exact absurd h2 hx
            · rintro ⟨i, h1, h2⟩
              exact ⟨i, List.mem_append_left _ h1, h2⟩
        by_cases hq : ∃ i, i ∈ ndL g n T Lf k ∧ x = 12 * m + i
        · rw [if_pos hq, if_pos (this.mpr hq)]
        · rw [if_neg hq, if_neg (fun w => hq (this.mp w))]
theorem ndL_nd {T : Nat → Int32} {Lf : Nat} : ∀ k, (ndL g n T Lf k).Nodup
  | 0 => List.nodup_nil
  | k + 1 => by
    rw [ndL]
    split
    · exact ndL_nd k
    · split
      · exact ndL_nd k
      · rename_i h
        rw [List.nodup_append]
        refine ⟨ndL_nd k, by simp, fun a ha b hb e => ?_⟩
        rw [List.mem_singleton.mp hb] at e
        exact h (e ▸ ha)
theorem ndL_T {T U : Nat → Int32} {Lf : Nat} (h : ∀ b, 32 + Lf ≤ b → wdA U b = wdA T b) : ∀ k, ndL g n U Lf k = ndL g n T Lf k
  | 0 => rfl
  | k + 1 => by rw [ndL, ndL, ndL_T h k, h (imA Lf k) (by unfold imA; omega)]
end BR3
theorem lsF_congr {f f' : Nat → Nat} {k : Nat} (h : ∀ i, i < k → f i = f' i) : lsF f k = lsF f' k := funext fun i => by
  unfold lsF
  by_cases z : i < k
  · rw [if_pos z, if_pos z, h i z]
  · rw [if_neg z, if_neg z]
theorem MOi_mono {G : eg_G} {PP PP' : va_W} {a c : Nat} {vs : List Value} {nf nf' : Nat → Nat} (h : MOi G PP a vs c nf) (hs : ∀ z ∈ PP, z ∈ PP') (hn : ∀ i, i < c → nf i = nf' i) : MOi G PP' a vs c nf' := by
  obtain ⟨nl, b, cap, y, h1, h2, h3⟩ := h
  refine ⟨nl, b, cap, y, hs _ h1, hs _ h2, fun z => ?_⟩
  obtain ⟨q1, q2, q3⟩ := h3 z
  rw [← lsF_congr hn]
  exact ⟨hs _ q1, q2, q3⟩
def insN (mx : Nat → Nat) (j0 m : Nat) : Nat → Nat := fun i => if i < j0 then mx i else if i = j0 then m else mx (i - 1)
theorem insF_ls (A mx : Nat → Nat) {k j0 m ma : Nat} (hj : j0 ≤ k) (hne : ∀ i, i < k → mx i ≠ m) : insF (lsF (fun i => A (mx i)) k) j0 ma = lsF (fun i => va_up A m ma (insN mx j0 m i)) (k + 1) := funext fun i => by
  unfold insF lsF insN
  dsimp only
  by_cases z : i < j0
  · rw [if_pos z, if_pos (by omega), if_pos (by omega), if_pos z, va_up_ne _ _ (hne i (by omega))]
  · rw [if_neg z, if_neg z]
    by_cases z2 : i = j0
    · rw [if_pos z2, if_pos (by omega), if_pos z2, va_up_self]
    · rw [if_neg z2, if_neg z2]
      by_cases z3 : i - 1 < k
      · rw [if_pos z3, if_pos (by omega), va_up_ne _ _ (hne (i - 1) z3)]
      · rw [if_neg z3, if_neg (by omega)]
theorem rcnt_lt {p : Nat → Bool} {m : Nat} (hp : p m = false) : ∀ {n : Nat}, m < n → rcnt p n < n
  | 0, h => absurd h (Nat.not_lt_zero _)
  | n + 1, h => by
    rw [rcnt]
    by_cases z : m = n
    · rw [← z, hp]
      have := rcnt_le p m
      simp
      omega
    · have := rcnt_lt hp (n := n) (by omega)
      split <;> omega
