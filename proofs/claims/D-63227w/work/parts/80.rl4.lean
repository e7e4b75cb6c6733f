/-! THE RELATION, 4: a module leaves -/
theorem range_getD {α : Type} (l : List Nat) (F : Nat → α) : (List.range l.length).map (fun i => F (l.getD i 0)) = l.map F := by
  apply List.ext_getElem
  · simp
  · intro i h1 h2
    simp at h1
    simp [h1]
theorem getD_mem {l : List Nat} {i : Nat} (h : i < l.length) : l.getD i 0 ∈ l := by simp [h]
theorem getD_inj {l : List Nat} (hd : l.Nodup) {i j : Nat} (hi : i < l.length) (hj : j < l.length) (e : l.getD i 0 = l.getD j 0) : i = j := by
  have e' : l[i] = l[j] := by simpa [hi, hj] using e
  rcases Nat.lt_trichotomy i j with z | z | z
  · exact absurd e' (List.pairwise_iff_getElem.mp hd i j hi hj z)
  · exact z
  · exact absurd e'.symm (List.pairwise_iff_getElem.mp hd j i hj hi z)
theorem filter_getD (l : List Nat) (p : Nat → Bool) : ((List.range l.length).filter (fun i => p (l.getD i 0))).length = (l.filter p).length := by
  have e := range_getD l p
  have h1 : ((List.range l.length).filter (fun i => p (l.getD i 0))).length = (((List.range l.length).map (fun i => p (l.getD i 0))).filter id).length := by
    rw [List.filter_map, List.length_map]
    rfl
  have h2 : (l.filter p).length = ((l.map p).filter id).length := by
    rw [List.filter_map, List.length_map]
    rfl
  rw [h1, h2, e]
def c47 (c : Nat) : Prop := c = 4 ∨ c = 5 ∨ c = 6 ∨ c = 7
theorem addG_c {g : Nat → Nat → Int32} {p k c : Nat} (hc : c47 c) : addG g p (g 4 k) (g 5 k) (g 6 k) (g 7 k) c = upd (g c) p (g c k) := by
  unfold addG
  rcases hc with rfl | rfl | rfl | rfl <;> rfl
theorem addG_o {g : Nat → Nat → Int32} {p c : Nat} {a b d e : Int32} (hc : ¬ c47 c) : addG g p a b d e c = g c := by
  unfold addG
  unfold c47 at hc
  rw [va_up_ne _ _ (by omega), va_up_ne _ _ (by omega), va_up_ne _ _ (by omega), va_up_ne _ _ (by omega)]
theorem rmG_o {g : Nat → Nat → Int32} {m c : Nat} (hc : ¬ c47 c) : ∀ k, (rmG g m k).2 c = g c
  | 0 => rfl
  | k + 1 => by
    rw [rmG]
    split
    · exact rmG_o hc k
    · show addG (rmG g m k).2 _ _ _ _ _ c = _
      rw [addG_o hc]
      exact rmG_o hc k
def kpL (u : Nat → Int32) (m k : Nat) : List Nat := (List.range k).filter (fun s => decide (¬ u s = nI m))
theorem rmG_sp {g : Nat → Nat → Int32} {m : Nat} : ∀ k, (rmG g m k).1 = (kpL (g 7) m k).length ∧ (∀ c, c47 c → ∀ i, i < (kpL (g 7) m k).length → (rmG g m k).2 c i = g c ((kpL (g 7) m k).getD i 0)) ∧ ∀ c, c47 c → ∀ i, k ≤ i → (rmG g m k).2 c i = g c i
  | 0 => ⟨rfl, fun c _ i hi => absurd hi (Nat.not_lt_zero _), fun _ _ _ _ => rfl⟩
  | k + 1 => by
    obtain ⟨h1, h2, h3⟩ := rmG_sp (g := g) (m := m) k
    have hle := rmG_le g m k
    have e7 : (rmG g m k).2 7 k = g 7 k := h3 7 (Or.inr (Or.inr (Or.inr rfl))) k (Nat.le_refl _)
    rw [rmG]
    by_cases z : g 7 k = nI m
    · rw [if_pos (by rw [e7]; exact z)]
      have ek : kpL (g 7) m (k + 1) = kpL (g 7) m k := by
        unfold kpL
        rw [List.range_succ, List.filter_append]
        simp [z]
      rw [ek]
      exact ⟨h1, h2, fun c hc i hi => h3 c hc i (by omega)⟩
    · rw [if_neg (by rw [e7]; exact z)]
      have ek : kpL (g 7) m (k + 1) = kpL (g 7) m k ++ [k] := by
        unfold kpL
        rw [List.range_succ, List.filter_append]
        simp [z]
      rw [ek]
      refine ⟨?_, fun c hc i hi => ?_, fun c hc i hi => ?_⟩
      · show (rmG g m k).1 + 1 = _
        rw [h1, List.length_append, List.length_singleton]
      · show addG (rmG g m k).2 _ _ _ _ _ c i = _
        rw [addG_c hc, h1]
        rw [List.length_append, List.length_singleton] at hi
        by_cases y : i = (kpL (g 7) m k).length
        · rw [y, pk_us, h3 c hc k (Nat.le_refl _)]
          simp
        · rw [pk_un y, h2 c hc i (by omega)]
          simp [List.getElem?_append_left (show i < (kpL (g 7) m k).length by omega)]
      · show addG (rmG g m k).2 _ _ _ _ _ c i = _
        rw [addG_c hc, pk_un (by omega)]
        exact h3 c hc i (by omega)
theorem clN_e (u : Nat → Int32) (m : Nat) : ∀ j i, clN u m j i = if 12 * m ≤ i ∧ i < 12 * m + j then 0 else u i
  | 0, i => by rw [if_neg (by omega)]; rfl
  | j + 1, i => by
    rw [clN]
    by_cases z : i = 12 * m + j
    · rw [z, pk_us, if_pos (by omega)]
    · rw [pk_un z, clN_e u m j i]
      by_cases y : 12 * m ≤ i ∧ i < 12 * m + j
      · rw [if_pos y, if_pos (by omega)]
      · rw [if_neg y, if_neg (by omega)]
section RMG
variable {g : Nat → Nat → Int32} {n m : Nat}
theorem remG_o {c : Nat} (hc : ¬ c47 c) (h8 : c ≠ 8) (h14 : c ≠ 14) : remG g n m c = g c := by
  unfold remG
  rw [va_up_ne _ _ h14, rmG_o hc, va_up_ne _ _ h8]
theorem remG_8 : remG g n m 8 = upd (g 8) m 0 := by
  unfold remG
  rw [va_up_ne _ _ (by decide), rmG_o (by unfold c47; omega), va_up_self]
theorem remG_14 : remG g n m 14 = clN (g 14) m 12 := by
  unfold remG
  rw [va_up_self, rmG_o (by unfold c47; omega), va_up_ne _ _ (by decide)]
theorem g0_c {c : Nat} (hc : c47 c) {v : Nat → Int32} : va_up g 8 v c = g c := va_up_ne _ _ (by unfold c47 at hc; omega)
theorem remN_e : remN g n m = (kpL (g 7) m n).length := (rmG_sp (g := va_up g 8 (upd (g 8) m 0)) n).1
theorem remG_c {c i : Nat} (hc : c47 c) (hi : i < (kpL (g 7) m n).length) : remG g n m c i = g c ((kpL (g 7) m n).getD i 0) := by
  have z := (rmG_sp (g := va_up g 8 (upd (g 8) m 0)) (m := m) n).2.1 c hc i hi
  unfold remG
  rw [va_up_ne _ _ (by unfold c47 at hc; omega), z, g0_c hc]
  rfl
theorem kp_lt {u : Nat → Int32} {i : Nat} (hi : i < (kpL u m n).length) : (kpL u m n).getD i 0 < n ∧ ¬ u ((kpL u m n).getD i 0) = nI m := by
  have z := getD_mem hi
  unfold kpL at z ⊢
  rw [List.mem_filter, List.mem_range] at z
  exact ⟨z.1, of_decide_eq_true z.2⟩
theorem kp_len {u : Nat → Int32} : (kpL u m n).length ≤ n := by
  unfold kpL
  have := List.length_filter_le (fun s => decide (¬ u s = nI m)) (List.range n)
  rwa [List.length_range] at this
theorem kp_nd {u : Nat → Int32} : (kpL u m n).Nodup := List.nodup_range.filter _
theorem lv_rem {j : Nat} : lv (remG g n m) j ↔ lv g j ∧ j ≠ m := by
  unfold lv
  rw [remG_8]
  by_cases z : j = m
  · rw [z, pk_us]; simp
  · rw [pk_un z]; simp [z]
theorem ofP_len {j : Nat} (hn : n ≤ 40) : rcnt (ofP g n j) 40 = ((List.range n).filter (fun s => decide (g 7 s = nI j))).length := by
  rw [rcnt_len]
  refine len_same (List.nodup_range.filter _) (List.nodup_range.filter _) (fun i => ?_)
  rw [List.mem_filter, List.mem_range, List.mem_filter, List.mem_range]
  unfold ofP
  rw [Bool.and_eq_true]
  constructor
  · rintro ⟨h1, h2, h3⟩
    exact ⟨of_decide_eq_true h2, h3⟩
  · rintro ⟨h1, h2⟩
    exact ⟨by omega, decide_eq_true h1, h2⟩
theorem ofP_rem {j : Nat} (hn : n ≤ 40) (hj : j < 12) (hm : m < 12) (hne : j ≠ m) : rcnt (ofP (remG g n m) (remN g n m) j) 40 = rcnt (ofP g n j) 40 := by
  have hl := kp_len (n := n) (m := m) (u := g 7)
  rw [remN_e, ofP_len (by omega), ofP_len hn]
  have e : (List.range (kpL (g 7) m n).length).filter (fun s => decide (remG g n m 7 s = nI j)) = (List.range (kpL (g 7) m n).length).filter (fun i => (fun s => decide (g 7 s = nI j)) ((kpL (g 7) m n).getD i 0)) := by
    refine List.filter_congr fun i hi => ?_
    rw [remG_c (Or.inr (Or.inr (Or.inr rfl))) (List.mem_range.mp hi)]
  rw [e]
  refine (filter_getD (kpL (g 7) m n) (fun s => decide (g 7 s = nI j))).trans ?_
  unfold kpL
  rw [List.filter_filter]
  congr 1
  refine List.filter_congr fun s hs => ?_
  by_cases z : g 7 s = nI j
  · rw [decide_eq_true z, decide_eq_true (p := ¬ g 7 s = nI m) (fun w => hne ((nI_eq (by omega) (by omega)).mp (z.symm.trans w)))]
    rfl
  · rw [decide_eq_false z, Bool.false_and]
end RMG
