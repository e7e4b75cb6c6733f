/-! THE READER, 5: lists of records -/
def lsF (ae : Nat → Nat) (k : Nat) : Nat → Option Nat := fun i => if i < k then some (ae i) else none
theorem lsF_s (ae : Nat → Nat) (k y : Nat) : va_up (lsF ae k) k (some y) = lsF (va_up ae k y) (k + 1) := funext fun i => by
  unfold lsF
  by_cases h : i = k
  · rw [h, va_up_self, if_pos (by omega), va_up_self]
  · rw [va_up_ne _ _ h, va_up_ne _ _ h]
    by_cases h2 : i < k
    · rw [if_pos h2, if_pos (by omega)]
    · rw [if_neg h2, if_neg (by omega)]
theorem lsF_n (ae : Nat → Nat) (k : Nat) : ∀ i, k ≤ i → lsF ae k i = none := fun i h => if_neg (by omega)
theorem lsF_lt (ae : Nat → Nat) {k i : Nat} (h : i < k) : lsF ae k i = some (ae i) := if_pos h
def PLc (ci : Nat) (V : Nat → List Value) (ae : Nat → Nat) (i : Nat) : Nat × ((ClassId × vp_A) ⊕ (Nat × List Value)) := (ae i, .inr (ci, V i))
def PLs (ci : Nat) (V : Nat → List Value) (ae : Nat → Nat) (k : Nat) : va_W := (List.range k).map (PLc ci V ae)
theorem PLs_in {ci : Nat} {V : Nat → List Value} {ae : Nat → Nat} {k i : Nat} (h : i < k) : (ae i, .inr (ci, V i)) ∈ PLs ci V ae k := List.mem_map.mpr ⟨i, List.mem_range.mpr h, rfl⟩
theorem PLs_s (ci : Nat) (V : Nat → List Value) (ae : Nat → Nat) (k y : Nat) : PLs ci V (va_up ae k y) (k + 1) = PLs ci V ae k ++ [(y, .inr (ci, V k))] := by
  unfold PLs
  rw [List.range_succ, List.map_append]
  congr 1
  · refine List.map_congr_left fun i hi => ?_
    rw [List.mem_range] at hi
    unfold PLc
    rw [va_up_ne _ _ (by omega)]
  · show [PLc ci V (va_up ae k y) k] = _
    unfold PLc
    rw [va_up_self]
theorem PLs_E {ci : Nat} {V : Nat → List Value} {ae : Nat → Nat} {k y2 : Nat} : ∀ i y, lsF ae k i = some y → ∃ fs, (y, .inr (ci, fs)) ∈ PLs ci V (va_up ae k y2) (k + 1) := by
  intro i y h
  rw [PLs_s]
  by_cases z : i < k
  · rw [lsF_lt _ z] at h
    cases h
    exact ⟨_, List.mem_append_left _ (PLs_in z)⟩
  · rw [lsF_n _ _ _ (by omega)] at h
    cases h
theorem PLs_y {ci : Nat} {V : Nat → List Value} {ae : Nat → Nat} {k y : Nat} : (y, .inr (ci, V k)) ∈ PLs ci V (va_up ae k y) (k + 1) := by
  rw [PLs_s]
  exact List.mem_append_right _ List.mem_cons_self
theorem ca_Ep : Cond.castable "ModuleLoader$Export" "java/lang/Object" ∈ eg_ws := by decide +kernel
theorem ca_Im : Cond.castable "ModuleLoader$Import" "java/lang/Object" ∈ eg_ws := by decide +kernel
theorem ca_Pl : Cond.castable "ModuleLoader$Place" "java/lang/Object" ∈ eg_ws := by decide +kernel
theorem ca_Mo : Cond.castable "ModuleLoader$Module" "java/lang/Object" ∈ eg_ws := by decide +kernel
def imV (T : Nat → Int32) (L : Nat) (i : Nat) : List Value := [.int (wdA T (imA L i)), .int (wdA T (imA L i + 4))]
def exW (T : Nat → Int32) (L M : Nat) (i : Nat) : List Value := [.int (wdA T (exA L M i)), .int (wdA T (exA L M i + 4)), .int (wdA T (exA L M i + 8))]
def plW (T : Nat → Int32) (L M E : Nat) (i : Nat) : List Value := [.int (wdA T (plA L M E i)), .int (wdA T (plA L M E i + 4)), .int (wdA T (plA L M E i + 8)), .int (wdA T (plA L M E i + 12))]
