/-! small rules: results of calls, arrays in a picture -/
section EGZ
theorem eg_catb {av : List Value} (h : av.all (fun v => v.category == 1) = true) : ∀ v ∈ av, v.category = 1 := by
  intro v hv
  have := List.all_eq_true.mp h v hv
  simpa using this
/-- it returns v and leaves the segments X -/
def rF (v : Option Value) (X : eg_S) : eg_O → eg_S → Prop := fun o S' => o = .inl v ∧ S' = X
def bI (b : Bool) : Int32 := if b then 1 else 0
theorem bI_n (b : Bool) : narrow .boolean (.int (bI b)) = .int (bI b) := by cases b <;> rfl
theorem bI_f (b : Bool) : fits .boolean (.int (bI b)) = true := by cases b <;> rfl
theorem bI_v (b : Bool) : vp_nar .boolean (bI b) = bI b := by cases b <;> rfl
theorem bI_0 {b : Bool} : bI b = 0 ↔ b = false := by cases b <;> decide
theorem bI_1 {b : Bool} : bI b = 1 ↔ b = true := by cases b <;> decide
variable {l : Launch} {G : eg_G} {Γ : eg_C} {μ μy : eg_M} {pc nx tgt i n k d mc ms d' mc' ms' nLy len : Nat} {lv : List (Option Value)} {st av rest : List Value} {S S1 S2 X : eg_S} {y : MethodName} {w : Value}
theorem ex_eqS (S2 : eg_S) (h : S = S2) (kk : Ex G Γ μ pc lv st S2 n k) : Ex G Γ μ pc lv st S n k := by rw [h]; exact kk
theorem ex_eqL (lv2 : List (Option Value)) (h : lv = lv2) (kk : Ex G Γ μ pc lv2 st S n k) : Ex G Γ μ pc lv st S n k := by rw [h]; exact kk
theorem ex_eqT (st2 : List Value) (h : st = st2) (kk : Ex G Γ μ pc lv st2 S n k) : Ex G Γ μ pc lv st S n k := by rw [h]; exact kk
theorem ex_cF (ks : List Nat) (hR : eg_Rm l Γ d mc ms) (hC : Ct l G y d' mc' ms' av S1 (rF (some w) X)) (hI : eg_Inv G Γ μ pc lv st S y av rest len) (hy : cdx y μy nLy) (hS1 : eg_pk S ks = S1) (hks : eg_ks S.length ks = true) (hst : (rest.map fun v => v.category).sum ≤ 8) (hnL : nLy ≤ 60) (hd : d' + 1 ≤ d) (hn : n + mc' ≤ mc) (hk : k + ms' ≤ ms) (hnx : pc + len = nx)
    (kr : Ex G Γ μ nx lv (w :: rest) (eg_bk S ks X) (n + mc') (k + ms')) : Ex G Γ μ pc lv st S n k := by
  refine ex_call ks hR hC hI hy hS1 hks hst hnL hd hn hk (fun v S1' h => ?_) (fun E S1' h => ?_)
  · obtain ⟨h1, h2⟩ := h
    cases h1
    subst h2
    rw [hnx]
    exact kr
  · cases h.1
theorem ex_cV (ks : List Nat) (hR : eg_Rm l Γ d mc ms) (hC : Ct l G y d' mc' ms' av S1 (rF none X)) (hI : eg_Inv G Γ μ pc lv st S y av rest len) (hy : cdx y μy nLy) (hS1 : eg_pk S ks = S1) (hks : eg_ks S.length ks = true) (hst : (rest.map fun v => v.category).sum ≤ 8) (hnL : nLy ≤ 60) (hd : d' + 1 ≤ d) (hn : n + mc' ≤ mc) (hk : k + ms' ≤ ms) (hnx : pc + len = nx)
    (kr : Ex G Γ μ nx lv rest (eg_bk S ks X) (n + mc') (k + ms')) : Ex G Γ μ pc lv st S n k := by
  refine ex_call ks hR hC hI hy hS1 hks hst hnL hd hn hk (fun v S1' h => ?_) (fun E S1' h => ?_)
  · obtain ⟨h1, h2⟩ := h
    cases h1
    subst h2
    rw [hnx]
    exact kr
  · cases h.1
/-- a function of its arguments alone -/
theorem ex_cP (hR : eg_Rm l Γ d mc ms) (hC : Ct l G y d' 0 0 av [] (rF (some w) [])) (hI : eg_Inv G Γ μ pc lv st S y av rest len) (hy : cdx y μy nLy) (hst : (rest.map fun v => v.category).sum ≤ 8) (hnL : nLy ≤ 60) (hd : d' + 1 ≤ d) (hn : n ≤ mc) (hk : k ≤ ms) (hnx : pc + len = nx)
    (kr : Ex G Γ μ nx lv (w :: rest) S n k) : Ex G Γ μ pc lv st S n k := by
  refine ex_cF [] hR hC hI hy rfl rfl hst hnL hd hn hk hnx ?_
  show Ex G Γ μ nx lv (w :: rest) (S ++ []) n k
  rw [List.append_nil]
  exact kr
theorem ex_iastp (kS jS : Nat) {P : va_W} {a j N : Nat} {f : Nat → Int32} {i x : Int32} (hd : dx μ pc .iastore 1 nx) (hk : S[kS]? = some P) (hm : P[jS]? = some (a, .inl (eg_c G 2, N, .inl f))) (hi : ix i j N) (kk : Ex G Γ μ nx lv rest (S.set kS (P.set jS (a, .inl (eg_c G 2, N, .inl (upd f j x))))) n k) : Ex G Γ μ pc lv (.int x :: .int i :: .ref a :: rest) S n k := by
  obtain ⟨p, l, e, R, s, m, args, below, meth, c, A, Q⟩ := Γ
  intro ok H locs ls cells slots h1 h2 hl hP hD hS
  obtain ⟨hd, rfl⟩ := hd
  obtain ⟨rfl, hi⟩ := hi
  obtain ⟨z, hz, hset⟩ := eg_pos S kS jS _ _ hk hm
  exact va_iast ok.1 ok.2.1 ok.2.2.2.2.2.2.2.1.1 hP hD hS z 2 hz rfl hi hd (fun H1 locs1 q1 q2 q3 => kk ok H1 locs1 ls cells slots h1 h2 hl (by rw [hset] at q1; exact q1) (by rw [hset] at q2; exact q2) q3)
theorem ex_bastp (kS jS : Nat) {P : va_W} {a j N : Nat} {f : Nat → Int32} {i x : Int32} (hd : dx μ pc .bastore 1 nx) (hk : S[kS]? = some P) (hm : P[jS]? = some (a, .inl (eg_c G 0, N, .inl f))) (hi : ix i j N) (kk : Ex G Γ μ nx lv rest (S.set kS (P.set jS (a, .inl (eg_c G 0, N, .inl (upd f j (vp_nar .byte x)))))) n k) : Ex G Γ μ pc lv (.int x :: .int i :: .ref a :: rest) S n k := by
  obtain ⟨p, l, e, R, s, m, args, below, meth, c, A, Q⟩ := Γ
  intro ok H locs ls cells slots h1 h2 hl hP hD hS
  obtain ⟨hd, rfl⟩ := hd
  obtain ⟨rfl, hi⟩ := hi
  obtain ⟨z, hz, hset⟩ := eg_pos S kS jS _ _ hk hm
  exact va_bast ok.1 ok.2.1 ok.2.2.2.2.2.2.2.1.1 hP hD hS z 0 hz rfl hi hd (fun H1 locs1 q1 q2 q3 => kk ok H1 locs1 ls cells slots h1 h2 hl (by rw [hset] at q1; exact q1) (by rw [hset] at q2; exact q2) q3)
theorem ex_zastp (kS jS : Nat) {P : va_W} {a j N : Nat} {f : Nat → Int32} {i x : Int32} (hd : dx μ pc .bastore 1 nx) (hk : S[kS]? = some P) (hm : P[jS]? = some (a, .inl (eg_c G 1, N, .inl f))) (hi : ix i j N) (kk : Ex G Γ μ nx lv rest (S.set kS (P.set jS (a, .inl (eg_c G 1, N, .inl (upd f j (vp_nar .boolean x)))))) n k) : Ex G Γ μ pc lv (.int x :: .int i :: .ref a :: rest) S n k := by
  obtain ⟨p, l, e, R, s, m, args, below, meth, c, A, Q⟩ := Γ
  intro ok H locs ls cells slots h1 h2 hl hP hD hS
  obtain ⟨hd, rfl⟩ := hd
  obtain ⟨rfl, hi⟩ := hi
  obtain ⟨z, hz, hset⟩ := eg_pos S kS jS _ _ hk hm
  exact va_zast ok.1 ok.2.1 ok.2.2.2.2.2.2.2.1.1 hP hD hS z 1 hz rfl hi hd (fun H1 locs1 q1 q2 q3 => kk ok H1 locs1 ls cells slots h1 h2 hl (by rw [hset] at q1; exact q1) (by rw [hset] at q2; exact q2) q3)
end EGZ
