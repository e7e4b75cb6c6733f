/-! contracts that return or throw by a condition -/
def rC (c : Prop) (v : Option Value) (X : eg_S) (E : String) (Y : eg_S) : eg_O → eg_S → Prop := fun o S' => (c ∧ o = .inl v ∧ S' = X) ∨ (¬ c ∧ o = .inr E ∧ S' = Y)
def rT (E : String) (Y : eg_S) : eg_O → eg_S → Prop := fun o S' => o = .inr E ∧ S' = Y
section EGC
variable {l : Launch} {G : eg_G} {Γ : eg_C} {μ μy : eg_M} {pc nx tgt i n k d mc ms d' mc' ms' nLy len : Nat} {lv : List (Option Value)} {st av rest : List Value} {S S1 S2 X Y : eg_S} {y : MethodName} {w : Value} {c : Prop} {E : String}
theorem ex_cCF (ks : List Nat) (hR : eg_Rm l Γ d mc ms) (hC : Ct l G y d' mc' ms' av S1 (rC c (some w) X E Y)) (hI : eg_Inv G Γ μ pc lv st S y av rest len) (hy : cdx y μy nLy) (hS1 : eg_pk S ks = S1) (hks : eg_ks S.length ks = true) (hst : (rest.map fun v => v.category).sum ≤ 8) (hnL : nLy ≤ 60) (hd : d' + 1 ≤ d) (hn : n + mc' ≤ mc) (hk : k + ms' ≤ ms) (hnx : pc + len = nx)
    (kr : c → Ex G Γ μ nx lv (w :: rest) (eg_bk S ks X) (n + mc') (k + ms')) (kt : ¬ c → ExT G Γ μ pc lv E (eg_bk S ks Y) (n + mc') (k + ms')) : Ex G Γ μ pc lv st S n k := by
  refine ex_call ks hR hC hI hy hS1 hks hst hnL hd hn hk (fun v S1' h => ?_) (fun E S1' h => ?_)
  · rcases h with ⟨h0, h1, h2⟩ | ⟨h0, h1, h2⟩
    · cases h1
      subst h2
      rw [hnx]
      exact kr h0
    · cases h1
  · rcases h with ⟨h0, h1, h2⟩ | ⟨h0, h1, h2⟩
    · cases h1
    · cases h1
      subst h2
      exact kt h0
theorem ex_cCV (ks : List Nat) (hR : eg_Rm l Γ d mc ms) (hC : Ct l G y d' mc' ms' av S1 (rC c none X E Y)) (hI : eg_Inv G Γ μ pc lv st S y av rest len) (hy : cdx y μy nLy) (hS1 : eg_pk S ks = S1) (hks : eg_ks S.length ks = true) (hst : (rest.map fun v => v.category).sum ≤ 8) (hnL : nLy ≤ 60) (hd : d' + 1 ≤ d) (hn : n + mc' ≤ mc) (hk : k + ms' ≤ ms) (hnx : pc + len = nx)
    (kr : c → Ex G Γ μ nx lv rest (eg_bk S ks X) (n + mc') (k + ms')) (kt : ¬ c → ExT G Γ μ pc lv E (eg_bk S ks Y) (n + mc') (k + ms')) : Ex G Γ μ pc lv st S n k := by
  refine ex_call ks hR hC hI hy hS1 hks hst hnL hd hn hk (fun v S1' h => ?_) (fun E S1' h => ?_)
  · rcases h with ⟨h0, h1, h2⟩ | ⟨h0, h1, h2⟩
    · cases h1
      subst h2
      rw [hnx]
      exact kr h0
    · cases h1
  · rcases h with ⟨h0, h1, h2⟩ | ⟨h0, h1, h2⟩
    · cases h1
    · cases h1
      subst h2
      exact kt h0
theorem ex_cT (ks : List Nat) (hR : eg_Rm l Γ d mc ms) (hC : Ct l G y d' mc' ms' av S1 (rT E Y)) (hI : eg_Inv G Γ μ pc lv st S y av rest len) (hy : cdx y μy nLy) (hS1 : eg_pk S ks = S1) (hks : eg_ks S.length ks = true) (hst : (rest.map fun v => v.category).sum ≤ 8) (hnL : nLy ≤ 60) (hd : d' + 1 ≤ d) (hn : n + mc' ≤ mc) (hk : k + ms' ≤ ms)
    (kt : ExT G Γ μ pc lv E (eg_bk S ks Y) (n + mc') (k + ms')) : Ex G Γ μ pc lv st S n k := by
  refine ex_call ks hR hC hI hy hS1 hks hst hnL hd hn hk (fun v S1' h => ?_) (fun E S1' h => ?_)
  · cases h.1
  · obtain ⟨h1, h2⟩ := h
    cases h1
    subst h2
    exact kt
theorem ext_eqS (S2 : eg_S) (h : S = S2) (kk : ExT G Γ μ pc lv E S2 n k) : ExT G Γ μ pc lv E S n k := by rw [h]; exact kk
end EGC
/-! arithmetic of bytes -/
theorem sh_e (x s : Int32) (k : Nat) (hs : s.toBitVec.smod 32 = BitVec.ofNat 32 k) (hk : k < 32) : (x <<< s).toBitVec = x.toBitVec <<< k := by
  rw [Int32.toBitVec_shiftLeft, hs, BitVec.shiftLeft_eq', BitVec.toNat_ofNat, Nat.mod_eq_of_lt (by omega)]
theorem sh8_or (x y : Int32) : (x ||| y) <<< ((8 : Int32) &&& 31) = x <<< ((8 : Int32) &&& 31) ||| y <<< ((8 : Int32) &&& 31) := by
  apply Int32.toBitVec_inj.mp
  rw [Int32.toBitVec_or, sh_e _ _ 8 (by decide) (by decide), sh_e _ _ 8 (by decide) (by decide), sh_e _ _ 8 (by decide) (by decide), Int32.toBitVec_or, BitVec.shiftLeft_or_distrib]
theorem sh8_8 (x : Int32) : x <<< ((8 : Int32) &&& 31) <<< ((8 : Int32) &&& 31) = x <<< ((16 : Int32) &&& 31) := by
  apply Int32.toBitVec_inj.mp
  rw [sh_e _ _ 8 (by decide) (by decide), sh_e _ _ 8 (by decide) (by decide), sh_e _ _ 16 (by decide) (by decide), ← BitVec.shiftLeft_add]
theorem sh16_8 (x : Int32) : x <<< ((16 : Int32) &&& 31) <<< ((8 : Int32) &&& 31) = x <<< ((24 : Int32) &&& 31) := by
  apply Int32.toBitVec_inj.mp
  rw [sh_e _ _ 8 (by decide) (by decide), sh_e _ _ 16 (by decide) (by decide), sh_e _ _ 24 (by decide) (by decide), ← BitVec.shiftLeft_add]
theorem sh_0 : (0 : Int32) <<< ((8 : Int32) &&& 31) = 0 := by decide
/-- bytes read from the highest on -/
def rdJ (M : Nat → Int32) (a s : Nat) : Nat → Int32
  | 0 => 0
  | j + 1 => rdJ M a s j <<< ((8 : Int32) &&& 31) ||| M (a + (s - (j + 1)))
theorem rdJ_1 (M : Nat → Int32) (a : Nat) : rdJ M a 1 1 = M a := by
  show (0 : Int32) <<< ((8 : Int32) &&& 31) ||| M (a + 0) = M a
  rw [sh_0, Int32.zero_or]; rfl
theorem rdJ_2 (M : Nat → Int32) (a : Nat) : rdJ M a 2 2 = M a ||| M (a + 1) <<< (8 &&& 31) := by
  show ((0 : Int32) <<< ((8 : Int32) &&& 31) ||| M (a + 1)) <<< ((8 : Int32) &&& 31) ||| M (a + 0) = _
  rw [sh_0, Int32.zero_or, Int32.or_comm]; rfl
theorem rdJ_4 (M : Nat → Int32) (a : Nat) : rdJ M a 4 4 = wdA M a := by
  show ((((0 : Int32) <<< ((8 : Int32) &&& 31) ||| M (a + 3)) <<< ((8 : Int32) &&& 31) ||| M (a + 2)) <<< ((8 : Int32) &&& 31) ||| M (a + 1)) <<< ((8 : Int32) &&& 31) ||| M (a + 0) = _
  rw [sh_0, Int32.zero_or]
  simp only [sh8_or, sh8_8, sh16_8]
  rw [wdA]
  show M (a + 3) <<< ((24 : Int32) &&& 31) ||| M (a + 2) <<< ((16 : Int32) &&& 31) ||| M (a + 1) <<< ((8 : Int32) &&& 31) ||| M a = M a ||| M (a + 1) <<< ((8 : Int32) &&& 31) ||| M (a + 2) <<< ((16 : Int32) &&& 31) ||| M (a + 3) <<< ((24 : Int32) &&& 31)
  generalize M (a + 3) <<< ((24 : Int32) &&& 31) = x3
  generalize M (a + 2) <<< ((16 : Int32) &&& 31) = x2
  generalize M (a + 1) <<< ((8 : Int32) &&& 31) = x1
  generalize M a = x0
  rw [Int32.or_comm (x3 ||| x2 ||| x1) x0, Int32.or_assoc x3 x2 x1, Int32.or_comm x3 (x2 ||| x1), Int32.or_comm x2 x1, Int32.or_assoc x0 x1 x2, Int32.or_assoc x0 (x1 ||| x2) x3]
/-- the low bits of an address -/
theorem and_rem {x : Int32} {s : Nat} (hs : s = 1 ∨ s = 2 ∨ s = 4) : x &&& (nI s - 1) = 0 ↔ x - x / nI s * nI s = 0 := by
  have hx : x.toInt = (x.toBitVec.toNat : Int) ∨ x.toInt = (x.toBitVec.toNat : Int) - 4294967296 := by
    show x.toBitVec.toInt = _ ∨ x.toBitVec.toInt = _
    rw [BitVec.toInt_eq_toNat_cond]
    split
    · exact Or.inl rfl
    · exact Or.inr (by simp)
  have hlo := Int32.le_toInt x
  have hhi := Int32.toInt_lt x
  have hq : (0 ≤ x.toInt → x.toInt.tdiv s = x.toInt / s) ∧ (x.toInt < 0 → x.toInt.tdiv s = -((-x.toInt) / s)) := by
    refine ⟨fun h => Int.tdiv_eq_ediv_of_nonneg h, fun h => ?_⟩
    rw [← Int.tdiv_eq_ediv_of_nonneg (by omega), Int.neg_tdiv, Int.neg_neg]
  have hs31 : s < 2 ^ 31 := by omega
  have e : (x - x / nI s * nI s).toInt = x.toInt - x.toInt.tdiv s * s := by
    rw [Int32.toInt_sub, Int32.toInt_mul, Int32.toInt_div, nI_toInt hs31]
    have e1 : (x.toInt.tdiv s).bmod (2 ^ 32) = x.toInt.tdiv s := Int.bmod_eq_of_le (by rcases hs with rfl | rfl | rfl <;> omega) (by rcases hs with rfl | rfl | rfl <;> omega)
    rw [e1]
    have e2 : (x.toInt.tdiv s * s).bmod (2 ^ 32) = x.toInt.tdiv s * s := Int.bmod_eq_of_le (by rcases hs with rfl | rfl | rfl <;> omega) (by rcases hs with rfl | rfl | rfl <;> omega)
    rw [e2]
    exact Int.bmod_eq_of_le (by rcases hs with rfl | rfl | rfl <;> omega) (by rcases hs with rfl | rfl | rfl <;> omega)
  have e0 : x - x / nI s * nI s = 0 ↔ x.toInt - x.toInt.tdiv s * s = 0 := by
    rw [← e, ← Int32.toInt_inj]; rfl
  rw [e0]
  have key : ∀ k : Nat, k ≤ 2 → s = 2 ^ k → (x &&& (nI s - 1) = 0 ↔ x.toBitVec.toNat % s = 0) := by
    intro k hk hsk
    have hk3 : k = 0 ∨ k = 1 ∨ k = 2 := by omega
    have e1 : x &&& (nI s - 1) = nI (x.toBitVec.toNat % 2 ^ k) := pk_and x k (by
      rcases hk3 with rfl | rfl | rfl <;> subst hsk <;> decide)
    rw [e1, ← hsk]
    have hm := Nat.mod_lt x.toBitVec.toNat (show 0 < s by omega)
    exact nI_eq (a := x.toBitVec.toNat % s) (b := 0) (by omega) (by decide)
  rcases hs with rfl | rfl | rfl
  · rw [key 0 (by decide) rfl]; omega
  · rw [key 1 (by decide) rfl]; omega
  · rw [key 2 (by decide) rfl]; omega
