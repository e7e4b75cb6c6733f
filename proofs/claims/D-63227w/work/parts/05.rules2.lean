section EGH
/-- a place of a segment is a place of the flat world; a change there is a change of the segment -/
theorem eg_pos : ∀ (S : eg_S) (k j : Nat) (P : va_W) (q : Nat × va_E), S[k]? = some P → P[j]? = some q → ∃ z : Nat, S.flatten[z]? = some q ∧ ∀ q' : Nat × va_E, S.flatten.set z q' = (S.set k (P.set j q')).flatten
  | [], k, j, P, q, h, _ => by simp at h
  | X :: S, 0, j, P, q, h, hj => by
    have hX : X = P := by simpa using h
    subst hX
    have hl := (List.getElem?_eq_some_iff.mp hj).1
    refine ⟨j, by rw [List.flatten_cons, List.getElem?_append_left hl]; exact hj, fun q' => ?_⟩
    rw [List.flatten_cons, List.set_append_left _ _ hl]
    rfl
  | X :: S, k + 1, j, P, q, h, hj => by
    obtain ⟨z, h1, h2⟩ := eg_pos S k j P q (by simpa using h) hj
    refine ⟨X.length + z, by rw [List.flatten_cons, List.getElem?_append_right (by omega), Nat.add_sub_cancel_left]; exact h1, fun q' => ?_⟩
    rw [List.flatten_cons, List.set_append_right _ _ (by omega), Nat.add_sub_cancel_left, h2 q']
    rfl
theorem eg_mem {S : eg_S} {k : Nat} {P : va_W} {q : Nat × va_E} (h : S[k]? = some P) (hq : q ∈ P) : ∃ z : Nat, S.flatten[z]? = some q := by
  obtain ⟨j, hj⟩ := List.getElem?_of_mem hq
  obtain ⟨z, h1, -⟩ := eg_pos S k j P q h hj
  exact ⟨z, h1⟩
/-- a class of the list: its words, its fields' types, their names -/
def eg_cf (ci : Nat) (C : String) (T : u_T) (N : Nat) (ty0 : Nat → FieldType) : Prop := classes[ci]? = some (C, T, N) ∧ (∀ w ∈ u_ws C T N, w ∈ eg_ws) ∧ (∀ k, k < N → parseFieldDescriptor (T k).2.2.1 = some (ty0 k)) ∧ (∀ a, a < N → ∀ b, b < N → a ≠ b → (T a).2.1 ≠ (T b).2.1)
/-- entry idx of the class own links field j of class ci -/
def fx (own : String) (idx ci j : Nat) : Prop := ∃ (C : String) (T : u_T) (N : Nat) (ty0 : Nat → FieldType) (ref : String), eg_cf ci C T N ty0 ∧ j < N ∧ (Cond.fieldLink own idx ref (T j).2.1 (T j).2.2.1 ∈ eg_ws ∨ ∃ host, Cond.fieldLinkNest own idx ref (T j).2.1 (T j).2.2.1 host ∈ eg_ws) ∧ (ref = (T j).1 ∨ Cond.sameField ref (T j).1 (T j).2.1 (T j).2.2.1 ∈ eg_ws)
/-- the same for a write in the method of that name, of a field of the type ty -/
def wx (own nm : String) (idx ci j : Nat) (ty : FieldType) : Prop := ∃ (C : String) (T : u_T) (N : Nat) (ty0 : Nat → FieldType) (ref : String), eg_cf ci C T N ty0 ∧ j < N ∧ (((T j).2.2.2 = false ∧ Cond.fieldLink own idx ref (T j).2.1 (T j).2.2.1 ∈ eg_ws) ∨ ((T j).2.2.2 = false ∧ ∃ host, Cond.fieldLinkNest own idx ref (T j).2.1 (T j).2.2.1 host ∈ eg_ws) ∨ ((T j).2.2.2 = true ∧ nm = "<init>" ∧ (T j).1 = own ∧ Cond.fieldLink own idx ref (T j).2.1 (T j).2.2.1 ∈ eg_ws)) ∧ (ref = (T j).1 ∨ Cond.sameField ref (T j).1 (T j).2.1 (T j).2.2.1 ∈ eg_ws) ∧ parseFieldDescriptor (T j).2.2.1 = some ty
theorem eg_same {s : State} {args : Array Value} {ref C n d : String} (hts : ∀ w ∈ eg_ws, w.before args s = true) (h : ref = C ∨ Cond.sameField ref C n d ∈ eg_ws) : ∀ x, s.fieldFound? C n d = some x → s.fieldFound? ref n d = some x := by
  rcases h with rfl | h
  · exact fun _ z => z
  · exact u_same (hts _ h)
/-- an index, as a number, in an array of N places -/
def ix (i : Int32) (j N : Nat) : Prop := i.toNatClampNeg = j ∧ vp_in i N
theorem ix_n {j N : Nat} (h : j < N) (hN : N < 2 ^ 31) : ix (nI j) j N := ⟨nI_clamp (by omega), vp_in_nI h hN⟩
theorem ix_of {i : Int32} {j N : Nat} (e : i = nI j) (h : j < N) (hN : N < 2 ^ 31) : ix i j N := by rw [e]; exact ix_n h hN
variable {G : eg_G} {Γ : eg_C} {μ : eg_M} {pc nx tgt i n k : Nat} {lv : List (Option Value)} {rest : List Value} {S : eg_S} {x y : Int32} {off : Int}
theorem ex_get (kS : Nat) {P : va_W} {a ci j idx : Nat} {fs : List Value} {v : Value} (hf : fx μ.1 idx ci j) (hd : dx μ pc (.getfield idx) 3 nx) (hk : S[kS]? = some P) (hm : (a, .inr (ci, fs)) ∈ P) (hv : fs[j]? = some v) (kk : Ex G Γ μ nx lv (v :: rest) S n k) : Ex G Γ μ pc lv (.ref a :: rest) S n k := by
  obtain ⟨p, l, e, R, s, m, args, below, meth, c, A, Q⟩ := Γ
  intro ok H locs ls cells slots h1 h2 hl hP hD hS
  obtain ⟨hd, rfl⟩ := hd
  obtain ⟨C, T, N, ty0, ref, hc, hj, hl2, hsm⟩ := hf
  obtain ⟨z, hz⟩ := eg_mem hk hm
  have K := kk ok H locs ls cells slots h1 h2 hl hP hD hS
  obtain ⟨hx, hb, hown, hts, -, -, -, hK, -⟩ := ok
  rcases hl2 with hl2 | ⟨host, hl2⟩
  · exact va_get hx hb hts hc.2.1 hown hK.1 hP z hz hc.1 j hj (hts _ hl2) (eg_same hts hsm) hv hd K
  · exact va_getN hx hb hts hc.2.1 hown hK.1 hP z hz hc.1 j hj (hts _ hl2) (eg_same hts hsm) hv hd K
theorem ex_get1 (kS : Nat) {a ci j idx : Nat} {fs : List Value} {v : Value} (hf : fx μ.1 idx ci j) (hd : dx μ pc (.getfield idx) 3 nx) (hk : S[kS]? = some [(a, .inr (ci, fs))]) (hv : fs[j]? = some v) (kk : Ex G Γ μ nx lv (v :: rest) S n k) : Ex G Γ μ pc lv (.ref a :: rest) S n k := ex_get kS hf hd hk List.mem_cons_self hv kk
theorem ex_putp (kS jS : Nat) {P : va_W} {a ci j idx : Nat} {fs : List Value} {v : Value} {ty : FieldType} (hf : wx μ.1 μ.2.2.2.1 idx ci j ty) (hd : dx μ pc (.putfield idx) 3 nx) (hk : S[kS]? = some P) (hm : P[jS]? = some (a, .inr (ci, fs))) (hn : narrow ty v = v) (hfit : fits ty v = true) (hlen : j < fs.length) (kk : Ex G Γ μ nx lv rest (S.set kS (P.set jS (a, .inr (ci, fs.set j v)))) n k) : Ex G Γ μ pc lv (v :: .ref a :: rest) S n k := by
  obtain ⟨p, l, e, R, s, m, args, below, meth, c, A, Q⟩ := Γ
  intro ok H locs ls cells slots h1 h2 hl hP hD hS
  obtain ⟨hd, rfl⟩ := hd
  obtain ⟨C, T, N, ty0, ref, hc, hj, hl2, hsm, hty⟩ := hf
  obtain ⟨z, hz, hset⟩ := eg_pos S kS jS P _ hk hm
  have K := fun H1 locs1 (q1 : va_P (eg_D G) classes (S.flatten.set z (a, .inr (ci, fs.set j v))) H1) (q2 : va_D A (S.flatten.set z (a, .inr (ci, fs.set j v)))) (q3 : va_S A s.heap H1 locs1) => kk ok H1 locs1 ls cells slots h1 h2 hl (by rw [← hset]; exact q1) (by rw [← hset]; exact q2) q3
  obtain ⟨hx, hb, hown, hts, -, -, hnm, hK, -⟩ := ok
  rcases hl2 with ⟨hfin, hl2⟩ | ⟨hfin, host, hl2⟩ | ⟨hfin, hin, hdc, hl2⟩
  · exact va_put hx hb hts hc.2.1 ty0 hc.2.2.1 hc.2.2.2 hown hK.1 hP hD hS z hz hc.1 j hj (hts _ hl2) (eg_same hts hsm) hfin hty hn hfit hlen hd K
  · exact va_putN hx hb hts hc.2.1 ty0 hc.2.2.1 hc.2.2.2 hown hK.1 hP hD hS z hz hc.1 j hj (hts _ hl2) (eg_same hts hsm) hfin hty hn hfit hlen hd K
  · exact va_putF hx hb hts hc.2.1 ty0 hc.2.2.1 hc.2.2.2 hown hK.1 hP hD hS z hz hc.1 j hj (hts _ hl2) (eg_same hts hsm) hfin (by rw [hnm]; exact hin) hdc hty hn hfit hlen hd K
theorem ex_put1 (kS : Nat) {a ci j idx : Nat} {fs : List Value} {v : Value} {ty : FieldType} (hf : wx μ.1 μ.2.2.2.1 idx ci j ty) (hd : dx μ pc (.putfield idx) 3 nx) (hk : S[kS]? = some [(a, .inr (ci, fs))]) (hn : narrow ty v = v) (hfit : fits ty v = true) (hlen : j < fs.length) (kk : Ex G Γ μ nx lv rest (S.set kS [(a, .inr (ci, fs.set j v))]) n k) : Ex G Γ μ pc lv (v :: .ref a :: rest) S n k := ex_putp kS 0 hf hd hk rfl hn hfit hlen kk
theorem ex_iald (kS : Nat) {P : va_W} {a j N : Nat} {f : Nat → Int32} {i : Int32} (hd : dx μ pc .iaload 1 nx) (hk : S[kS]? = some P) (hm : (a, .inl (eg_c G 2, N, .inl f)) ∈ P) (hi : ix i j N) (kk : Ex G Γ μ nx lv (.int (f j) :: rest) S n k) : Ex G Γ μ pc lv (.int i :: .ref a :: rest) S n k := by
  obtain ⟨p, l, e, R, s, m, args, below, meth, c, A, Q⟩ := Γ
  intro ok H locs ls cells slots h1 h2 hl hP hD hS
  obtain ⟨hd, rfl⟩ := hd
  obtain ⟨rfl, hi⟩ := hi
  obtain ⟨z, hz⟩ := eg_mem hk hm
  exact va_iald ok.1 ok.2.1 ok.2.2.2.2.2.2.2.1.1 hP z 2 hz rfl hi hd (kk ok H locs ls cells slots h1 h2 hl hP hD hS)
theorem ex_iald1 (kS : Nat) {a j N : Nat} {f : Nat → Int32} {i : Int32} (hd : dx μ pc .iaload 1 nx) (hk : S[kS]? = some [(a, .inl (eg_c G 2, N, .inl f))]) (hi : ix i j N) (kk : Ex G Γ μ nx lv (.int (f j) :: rest) S n k) : Ex G Γ μ pc lv (.int i :: .ref a :: rest) S n k := ex_iald kS hd hk List.mem_cons_self hi kk
theorem ex_bald (kS : Nat) {P : va_W} {a j N : Nat} {f : Nat → Int32} {i : Int32} (hd : dx μ pc .baload 1 nx) (hk : S[kS]? = some P) (hm : (a, .inl (eg_c G 0, N, .inl f)) ∈ P) (hi : ix i j N) (kk : Ex G Γ μ nx lv (.int (f j) :: rest) S n k) : Ex G Γ μ pc lv (.int i :: .ref a :: rest) S n k := by
  obtain ⟨p, l, e, R, s, m, args, below, meth, c, A, Q⟩ := Γ
  intro ok H locs ls cells slots h1 h2 hl hP hD hS
  obtain ⟨hd, rfl⟩ := hd
  obtain ⟨rfl, hi⟩ := hi
  obtain ⟨z, hz⟩ := eg_mem hk hm
  exact va_bald ok.1 ok.2.1 ok.2.2.2.2.2.2.2.1.1 hP z 0 hz rfl hi hd (kk ok H locs ls cells slots h1 h2 hl hP hD hS)
theorem ex_bald1 (kS : Nat) {a j N : Nat} {f : Nat → Int32} {i : Int32} (hd : dx μ pc .baload 1 nx) (hk : S[kS]? = some [(a, .inl (eg_c G 0, N, .inl f))]) (hi : ix i j N) (kk : Ex G Γ μ nx lv (.int (f j) :: rest) S n k) : Ex G Γ μ pc lv (.int i :: .ref a :: rest) S n k := ex_bald kS hd hk List.mem_cons_self hi kk
theorem ex_zald (kS : Nat) {P : va_W} {a j N : Nat} {f : Nat → Int32} {i : Int32} (hd : dx μ pc .baload 1 nx) (hk : S[kS]? = some P) (hm : (a, .inl (eg_c G 1, N, .inl f)) ∈ P) (hi : ix i j N) (kk : Ex G Γ μ nx lv (.int (f j) :: rest) S n k) : Ex G Γ μ pc lv (.int i :: .ref a :: rest) S n k := by
  obtain ⟨p, l, e, R, s, m, args, below, meth, c, A, Q⟩ := Γ
  intro ok H locs ls cells slots h1 h2 hl hP hD hS
  obtain ⟨hd, rfl⟩ := hd
  obtain ⟨rfl, hi⟩ := hi
  obtain ⟨z, hz⟩ := eg_mem hk hm
  exact va_zald ok.1 ok.2.1 ok.2.2.2.2.2.2.2.1.1 hP z 1 hz rfl hi hd (kk ok H locs ls cells slots h1 h2 hl hP hD hS)
theorem ex_zald1 (kS : Nat) {a j N : Nat} {f : Nat → Int32} {i : Int32} (hd : dx μ pc .baload 1 nx) (hk : S[kS]? = some [(a, .inl (eg_c G 1, N, .inl f))]) (hi : ix i j N) (kk : Ex G Γ μ nx lv (.int (f j) :: rest) S n k) : Ex G Γ μ pc lv (.int i :: .ref a :: rest) S n k := ex_zald kS hd hk List.mem_cons_self hi kk
theorem ex_lald (kS : Nat) {P : va_W} {a j N : Nat} {f : Nat → Int64} {i : Int32} (hd : dx μ pc .laload 1 nx) (hk : S[kS]? = some P) (hm : (a, .inl (eg_c G 3, N, .inr (.inl f))) ∈ P) (hi : ix i j N) (kk : Ex G Γ μ nx lv (.long (f j) :: rest) S n k) : Ex G Γ μ pc lv (.int i :: .ref a :: rest) S n k := by
  obtain ⟨p, l, e, R, s, m, args, below, meth, c, A, Q⟩ := Γ
  intro ok H locs ls cells slots h1 h2 hl hP hD hS
  obtain ⟨hd, rfl⟩ := hd
  obtain ⟨rfl, hi⟩ := hi
  obtain ⟨z, hz⟩ := eg_mem hk hm
  exact va_lald ok.1 ok.2.1 ok.2.2.2.2.2.2.2.1.1 hP z 3 hz rfl hi hd (kk ok H locs ls cells slots h1 h2 hl hP hD hS)
theorem ex_lald1 (kS : Nat) {a j N : Nat} {f : Nat → Int64} {i : Int32} (hd : dx μ pc .laload 1 nx) (hk : S[kS]? = some [(a, .inl (eg_c G 3, N, .inr (.inl f)))]) (hi : ix i j N) (kk : Ex G Γ μ nx lv (.long (f j) :: rest) S n k) : Ex G Γ μ pc lv (.int i :: .ref a :: rest) S n k := ex_lald kS hd hk List.mem_cons_self hi kk
theorem ex_ald4 (kS : Nat) {P : va_W} {a j N : Nat} {f : Nat → Option Nat} {i : Int32} (hd : dx μ pc .aaload 1 nx) (hk : S[kS]? = some P) (hm : (a, .inl (eg_c G 4, N, .inr (.inr (.inr (.inr f))))) ∈ P) (hi : ix i j N) (kk : Ex G Γ μ nx lv (va_rf (f j) :: rest) S n k) : Ex G Γ μ pc lv (.int i :: .ref a :: rest) S n k := by
  obtain ⟨p, l, e, R, s, m, args, below, meth, c, A, Q⟩ := Γ
  intro ok H locs ls cells slots h1 h2 hl hP hD hS
  obtain ⟨hd, rfl⟩ := hd
  obtain ⟨rfl, hi⟩ := hi
  obtain ⟨z, hz⟩ := eg_mem hk hm
  exact va_aldq ok.1 ok.2.1 ok.2.2.2.2.2.2.2.1.1 hP z 4 hz rfl hi hd (kk ok H locs ls cells slots h1 h2 hl hP hD hS)
theorem ex_ald41 (kS : Nat) {a j N : Nat} {f : Nat → Option Nat} {i : Int32} (hd : dx μ pc .aaload 1 nx) (hk : S[kS]? = some [(a, .inl (eg_c G 4, N, .inr (.inr (.inr (.inr f)))))]) (hi : ix i j N) (kk : Ex G Γ μ nx lv (va_rf (f j) :: rest) S n k) : Ex G Γ μ pc lv (.int i :: .ref a :: rest) S n k := ex_ald4 kS hd hk List.mem_cons_self hi kk
theorem ex_ald5 (kS : Nat) {P : va_W} {a j N : Nat} {f : Nat → Option Nat} {i : Int32} (hd : dx μ pc .aaload 1 nx) (hk : S[kS]? = some P) (hm : (a, .inl (eg_c G 5, N, .inr (.inr (.inr (.inr f))))) ∈ P) (hi : ix i j N) (kk : Ex G Γ μ nx lv (va_rf (f j) :: rest) S n k) : Ex G Γ μ pc lv (.int i :: .ref a :: rest) S n k := by
  obtain ⟨p, l, e, R, s, m, args, below, meth, c, A, Q⟩ := Γ
  intro ok H locs ls cells slots h1 h2 hl hP hD hS
  obtain ⟨hd, rfl⟩ := hd
  obtain ⟨rfl, hi⟩ := hi
  obtain ⟨z, hz⟩ := eg_mem hk hm
  exact va_aldq ok.1 ok.2.1 ok.2.2.2.2.2.2.2.1.1 hP z 5 hz rfl hi hd (kk ok H locs ls cells slots h1 h2 hl hP hD hS)
theorem ex_ald51 (kS : Nat) {a j N : Nat} {f : Nat → Option Nat} {i : Int32} (hd : dx μ pc .aaload 1 nx) (hk : S[kS]? = some [(a, .inl (eg_c G 5, N, .inr (.inr (.inr (.inr f)))))]) (hi : ix i j N) (kk : Ex G Γ μ nx lv (va_rf (f j) :: rest) S n k) : Ex G Γ μ pc lv (.int i :: .ref a :: rest) S n k := ex_ald5 kS hd hk List.mem_cons_self hi kk
theorem ex_ald6 (kS : Nat) {P : va_W} {a j N : Nat} {f : Nat → Option Nat} {i : Int32} (hd : dx μ pc .aaload 1 nx) (hk : S[kS]? = some P) (hm : (a, .inl (eg_c G 6, N, .inr (.inr (.inr (.inr f))))) ∈ P) (hi : ix i j N) (kk : Ex G Γ μ nx lv (va_rf (f j) :: rest) S n k) : Ex G Γ μ pc lv (.int i :: .ref a :: rest) S n k := by
  obtain ⟨p, l, e, R, s, m, args, below, meth, c, A, Q⟩ := Γ
  intro ok H locs ls cells slots h1 h2 hl hP hD hS
  obtain ⟨hd, rfl⟩ := hd
  obtain ⟨rfl, hi⟩ := hi
  obtain ⟨z, hz⟩ := eg_mem hk hm
  exact va_aldq ok.1 ok.2.1 ok.2.2.2.2.2.2.2.1.1 hP z 6 hz rfl hi hd (kk ok H locs ls cells slots h1 h2 hl hP hD hS)
theorem ex_ald61 (kS : Nat) {a j N : Nat} {f : Nat → Option Nat} {i : Int32} (hd : dx μ pc .aaload 1 nx) (hk : S[kS]? = some [(a, .inl (eg_c G 6, N, .inr (.inr (.inr (.inr f)))))]) (hi : ix i j N) (kk : Ex G Γ μ nx lv (va_rf (f j) :: rest) S n k) : Ex G Γ μ pc lv (.int i :: .ref a :: rest) S n k := ex_ald6 kS hd hk List.mem_cons_self hi kk
theorem ex_ald7 (kS : Nat) {P : va_W} {a j N : Nat} {f : Nat → Option Nat} {i : Int32} (hd : dx μ pc .aaload 1 nx) (hk : S[kS]? = some P) (hm : (a, .inl (eg_c G 7, N, .inr (.inr (.inr (.inr f))))) ∈ P) (hi : ix i j N) (kk : Ex G Γ μ nx lv (va_rf (f j) :: rest) S n k) : Ex G Γ μ pc lv (.int i :: .ref a :: rest) S n k := by
  obtain ⟨p, l, e, R, s, m, args, below, meth, c, A, Q⟩ := Γ
  intro ok H locs ls cells slots h1 h2 hl hP hD hS
  obtain ⟨hd, rfl⟩ := hd
  obtain ⟨rfl, hi⟩ := hi
  obtain ⟨z, hz⟩ := eg_mem hk hm
  exact va_aldq ok.1 ok.2.1 ok.2.2.2.2.2.2.2.1.1 hP z 7 hz rfl hi hd (kk ok H locs ls cells slots h1 h2 hl hP hD hS)
theorem ex_ald71 (kS : Nat) {a j N : Nat} {f : Nat → Option Nat} {i : Int32} (hd : dx μ pc .aaload 1 nx) (hk : S[kS]? = some [(a, .inl (eg_c G 7, N, .inr (.inr (.inr (.inr f)))))]) (hi : ix i j N) (kk : Ex G Γ μ nx lv (va_rf (f j) :: rest) S n k) : Ex G Γ μ pc lv (.int i :: .ref a :: rest) S n k := ex_ald7 kS hd hk List.mem_cons_self hi kk
theorem ex_iast1 (kS : Nat) {a j N : Nat} {f : Nat → Int32} {i : Int32} (hd : dx μ pc .iastore 1 nx) (hk : S[kS]? = some [(a, .inl (eg_c G 2, N, .inl f))]) (hi : ix i j N) (kk : Ex G Γ μ nx lv rest (S.set kS [(a, .inl (eg_c G 2, N, .inl (upd f j x)))]) n k) : Ex G Γ μ pc lv (.int x :: .int i :: .ref a :: rest) S n k := by
  obtain ⟨p, l, e, R, s, m, args, below, meth, c, A, Q⟩ := Γ
  intro ok H locs ls cells slots h1 h2 hl hP hD hS
  obtain ⟨hd, rfl⟩ := hd
  obtain ⟨rfl, hi⟩ := hi
  obtain ⟨z, hz, hset⟩ := eg_pos S kS 0 _ _ hk rfl
  exact va_iast ok.1 ok.2.1 ok.2.2.2.2.2.2.2.1.1 hP hD hS z 2 hz rfl hi hd (fun H1 locs1 q1 q2 q3 => kk ok H1 locs1 ls cells slots h1 h2 hl (by rw [hset] at q1; exact q1) (by rw [hset] at q2; exact q2) q3)
theorem ex_bast1 (kS : Nat) {a j N : Nat} {f : Nat → Int32} {i : Int32} (hd : dx μ pc .bastore 1 nx) (hk : S[kS]? = some [(a, .inl (eg_c G 0, N, .inl f))]) (hi : ix i j N) (kk : Ex G Γ μ nx lv rest (S.set kS [(a, .inl (eg_c G 0, N, .inl (upd f j (vp_nar .byte x))))]) n k) : Ex G Γ μ pc lv (.int x :: .int i :: .ref a :: rest) S n k := by
  obtain ⟨p, l, e, R, s, m, args, below, meth, c, A, Q⟩ := Γ
  intro ok H locs ls cells slots h1 h2 hl hP hD hS
  obtain ⟨hd, rfl⟩ := hd
  obtain ⟨rfl, hi⟩ := hi
  obtain ⟨z, hz, hset⟩ := eg_pos S kS 0 _ _ hk rfl
  exact va_bast ok.1 ok.2.1 ok.2.2.2.2.2.2.2.1.1 hP hD hS z 0 hz rfl hi hd (fun H1 locs1 q1 q2 q3 => kk ok H1 locs1 ls cells slots h1 h2 hl (by rw [hset] at q1; exact q1) (by rw [hset] at q2; exact q2) q3)
theorem ex_zast1 (kS : Nat) {a j N : Nat} {f : Nat → Int32} {i : Int32} (hd : dx μ pc .bastore 1 nx) (hk : S[kS]? = some [(a, .inl (eg_c G 1, N, .inl f))]) (hi : ix i j N) (kk : Ex G Γ μ nx lv rest (S.set kS [(a, .inl (eg_c G 1, N, .inl (upd f j (vp_nar .boolean x))))]) n k) : Ex G Γ μ pc lv (.int x :: .int i :: .ref a :: rest) S n k := by
  obtain ⟨p, l, e, R, s, m, args, below, meth, c, A, Q⟩ := Γ
  intro ok H locs ls cells slots h1 h2 hl hP hD hS
  obtain ⟨hd, rfl⟩ := hd
  obtain ⟨rfl, hi⟩ := hi
  obtain ⟨z, hz, hset⟩ := eg_pos S kS 0 _ _ hk rfl
  exact va_zast ok.1 ok.2.1 ok.2.2.2.2.2.2.2.1.1 hP hD hS z 1 hz rfl hi hd (fun H1 locs1 q1 q2 q3 => kk ok H1 locs1 ls cells slots h1 h2 hl (by rw [hset] at q1; exact q1) (by rw [hset] at q2; exact q2) q3)
theorem ex_last1 (kS : Nat) {a j N : Nat} {f : Nat → Int64} {i : Int32} {x : Int64} (hd : dx μ pc .lastore 1 nx) (hk : S[kS]? = some [(a, .inl (eg_c G 3, N, .inr (.inl f)))]) (hi : ix i j N) (kk : Ex G Γ μ nx lv rest (S.set kS [(a, .inl (eg_c G 3, N, .inr (.inl (vp_updL f j x))))]) n k) : Ex G Γ μ pc lv (.long x :: .int i :: .ref a :: rest) S n k := by
  obtain ⟨p, l, e, R, s, m, args, below, meth, c, A, Q⟩ := Γ
  intro ok H locs ls cells slots h1 h2 hl hP hD hS
  obtain ⟨hd, rfl⟩ := hd
  obtain ⟨rfl, hi⟩ := hi
  obtain ⟨z, hz, hset⟩ := eg_pos S kS 0 _ _ hk rfl
  exact va_last ok.1 ok.2.1 ok.2.2.2.2.2.2.2.1.1 hP hD hS z 3 hz rfl hi hd (fun H1 locs1 q1 q2 q3 => kk ok H1 locs1 ls cells slots h1 h2 hl (by rw [hset] at q1; exact q1) (by rw [hset] at q2; exact q2) q3)
theorem ex_astN4 (kS : Nat) {a j N : Nat} {f : Nat → Option Nat} {i : Int32} (hd : dx μ pc .aastore 1 nx) (hk : S[kS]? = some [(a, .inl (eg_c G 4, N, .inr (.inr (.inr (.inr (f))))))]) (hi : ix i j N) (kk : Ex G Γ μ nx lv rest (S.set kS [(a, .inl (eg_c G 4, N, .inr (.inr (.inr (.inr (va_up f j none))))))]) n k) : Ex G Γ μ pc lv (.null :: .int i :: .ref a :: rest) S n k := by
  obtain ⟨p, l, e, R, s, m, args, below, meth, c, A, Q⟩ := Γ
  intro ok H locs ls cells slots h1 h2 hl hP hD hS
  obtain ⟨hd, rfl⟩ := hd
  obtain ⟨rfl, hi⟩ := hi
  obtain ⟨z, hz, hset⟩ := eg_pos S kS 0 _ _ hk rfl
  exact va_astqN ok.1 ok.2.1 ok.2.2.2.2.2.2.2.1.1 hP hD hS z 4 hz rfl hi hd (fun H1 locs1 q1 q2 q3 => kk ok H1 locs1 ls cells slots h1 h2 hl (by rw [hset] at q1; exact q1) (by rw [hset] at q2; exact q2) q3)
theorem ex_ast4 (kS : Nat) {a j N b ci : Nat} {C : String} {T : u_T} {M : Nat} {vs : List Value} {f : Nat → Option Nat} {i : Int32} (kV : Nat) {PV : va_W} (hd : dx μ pc .aastore 1 nx) (hk : S[kS]? = some [(a, .inl (eg_c G 4, N, .inr (.inr (.inr (.inr (f))))))]) (hi : ix i j N) (hkV : S[kV]? = some PV) (hV : (b, .inr (ci, vs)) ∈ PV) (hc : classes[ci]? = some (C, T, M)) (hca : C = "ModuleLoader$Does" ∨ Cond.castable C "ModuleLoader$Does" ∈ eg_ws) (kk : Ex G Γ μ nx lv rest (S.set kS [(a, .inl (eg_c G 4, N, .inr (.inr (.inr (.inr (va_up f j (some b)))))))]) n k) : Ex G Γ μ pc lv (.ref b :: .int i :: .ref a :: rest) S n k := by
  obtain ⟨p, l, e, R, s, m, args, below, meth, c, A, Q⟩ := Γ
  intro ok H locs ls cells slots h1 h2 hl hP hD hS
  obtain ⟨hd, rfl⟩ := hd
  obtain ⟨rfl, hi⟩ := hi
  obtain ⟨z, hz, hset⟩ := eg_pos S kS 0 _ _ hk rfl
  obtain ⟨zV, hzV⟩ := eg_mem hkV hV
  rcases hca with rfl | hca
  · exact va_astq ok.1 ok.2.1 ok.2.2.2.2.2.2.2.1.1 hP hD hS z 4 zV ci hz rfl hzV hc hi hd (fun H1 locs1 q1 q2 q3 => kk ok H1 locs1 ls cells slots h1 h2 hl (by rw [hset] at q1; exact q1) (by rw [hset] at q2; exact q2) q3)
  · exact va_astqO ok.1 ok.2.1 ok.2.2.2.2.2.2.2.1.1 hP hD hS z 4 zV ci hz rfl (va_Nw.of rfl (ok.2.2.2.1 _ hca)) hzV hc hi hd (fun H1 locs1 q1 q2 q3 => kk ok H1 locs1 ls cells slots h1 h2 hl (by rw [hset] at q1; exact q1) (by rw [hset] at q2; exact q2) q3)
theorem ex_astN5 (kS : Nat) {a j N : Nat} {f : Nat → Option Nat} {i : Int32} (hd : dx μ pc .aastore 1 nx) (hk : S[kS]? = some [(a, .inl (eg_c G 5, N, .inr (.inr (.inr (.inr (f))))))]) (hi : ix i j N) (kk : Ex G Γ μ nx lv rest (S.set kS [(a, .inl (eg_c G 5, N, .inr (.inr (.inr (.inr (va_up f j none))))))]) n k) : Ex G Γ μ pc lv (.null :: .int i :: .ref a :: rest) S n k := by
  obtain ⟨p, l, e, R, s, m, args, below, meth, c, A, Q⟩ := Γ
  intro ok H locs ls cells slots h1 h2 hl hP hD hS
  obtain ⟨hd, rfl⟩ := hd
  obtain ⟨rfl, hi⟩ := hi
  obtain ⟨z, hz, hset⟩ := eg_pos S kS 0 _ _ hk rfl
  exact va_astqN ok.1 ok.2.1 ok.2.2.2.2.2.2.2.1.1 hP hD hS z 5 hz rfl hi hd (fun H1 locs1 q1 q2 q3 => kk ok H1 locs1 ls cells slots h1 h2 hl (by rw [hset] at q1; exact q1) (by rw [hset] at q2; exact q2) q3)
theorem ex_ast5 (kS : Nat) {a j N b ci : Nat} {C : String} {T : u_T} {M : Nat} {vs : List Value} {f : Nat → Option Nat} {i : Int32} (kV : Nat) {PV : va_W} (hd : dx μ pc .aastore 1 nx) (hk : S[kS]? = some [(a, .inl (eg_c G 5, N, .inr (.inr (.inr (.inr (f))))))]) (hi : ix i j N) (hkV : S[kV]? = some PV) (hV : (b, .inr (ci, vs)) ∈ PV) (hc : classes[ci]? = some (C, T, M)) (hca : C = "ModuleLoader$Symbol" ∨ Cond.castable C "ModuleLoader$Symbol" ∈ eg_ws) (kk : Ex G Γ μ nx lv rest (S.set kS [(a, .inl (eg_c G 5, N, .inr (.inr (.inr (.inr (va_up f j (some b)))))))]) n k) : Ex G Γ μ pc lv (.ref b :: .int i :: .ref a :: rest) S n k := by
  obtain ⟨p, l, e, R, s, m, args, below, meth, c, A, Q⟩ := Γ
  intro ok H locs ls cells slots h1 h2 hl hP hD hS
  obtain ⟨hd, rfl⟩ := hd
  obtain ⟨rfl, hi⟩ := hi
  obtain ⟨z, hz, hset⟩ := eg_pos S kS 0 _ _ hk rfl
  obtain ⟨zV, hzV⟩ := eg_mem hkV hV
  rcases hca with rfl | hca
  · exact va_astq ok.1 ok.2.1 ok.2.2.2.2.2.2.2.1.1 hP hD hS z 5 zV ci hz rfl hzV hc hi hd (fun H1 locs1 q1 q2 q3 => kk ok H1 locs1 ls cells slots h1 h2 hl (by rw [hset] at q1; exact q1) (by rw [hset] at q2; exact q2) q3)
  · exact va_astqO ok.1 ok.2.1 ok.2.2.2.2.2.2.2.1.1 hP hD hS z 5 zV ci hz rfl (va_Nw.of rfl (ok.2.2.2.1 _ hca)) hzV hc hi hd (fun H1 locs1 q1 q2 q3 => kk ok H1 locs1 ls cells slots h1 h2 hl (by rw [hset] at q1; exact q1) (by rw [hset] at q2; exact q2) q3)
theorem ex_astN6 (kS : Nat) {a j N : Nat} {f : Nat → Option Nat} {i : Int32} (hd : dx μ pc .aastore 1 nx) (hk : S[kS]? = some [(a, .inl (eg_c G 6, N, .inr (.inr (.inr (.inr (f))))))]) (hi : ix i j N) (kk : Ex G Γ μ nx lv rest (S.set kS [(a, .inl (eg_c G 6, N, .inr (.inr (.inr (.inr (va_up f j none))))))]) n k) : Ex G Γ μ pc lv (.null :: .int i :: .ref a :: rest) S n k := by
  obtain ⟨p, l, e, R, s, m, args, below, meth, c, A, Q⟩ := Γ
  intro ok H locs ls cells slots h1 h2 hl hP hD hS
  obtain ⟨hd, rfl⟩ := hd
  obtain ⟨rfl, hi⟩ := hi
  obtain ⟨z, hz, hset⟩ := eg_pos S kS 0 _ _ hk rfl
  exact va_astqN ok.1 ok.2.1 ok.2.2.2.2.2.2.2.1.1 hP hD hS z 6 hz rfl hi hd (fun H1 locs1 q1 q2 q3 => kk ok H1 locs1 ls cells slots h1 h2 hl (by rw [hset] at q1; exact q1) (by rw [hset] at q2; exact q2) q3)
theorem ex_ast6 (kS : Nat) {a j N b ci : Nat} {C : String} {T : u_T} {M : Nat} {vs : List Value} {f : Nat → Option Nat} {i : Int32} (kV : Nat) {PV : va_W} (hd : dx μ pc .aastore 1 nx) (hk : S[kS]? = some [(a, .inl (eg_c G 6, N, .inr (.inr (.inr (.inr (f))))))]) (hi : ix i j N) (hkV : S[kV]? = some PV) (hV : (b, .inr (ci, vs)) ∈ PV) (hc : classes[ci]? = some (C, T, M)) (hca : C = "ModuleLoader$Module" ∨ Cond.castable C "ModuleLoader$Module" ∈ eg_ws) (kk : Ex G Γ μ nx lv rest (S.set kS [(a, .inl (eg_c G 6, N, .inr (.inr (.inr (.inr (va_up f j (some b)))))))]) n k) : Ex G Γ μ pc lv (.ref b :: .int i :: .ref a :: rest) S n k := by
  obtain ⟨p, l, e, R, s, m, args, below, meth, c, A, Q⟩ := Γ
  intro ok H locs ls cells slots h1 h2 hl hP hD hS
  obtain ⟨hd, rfl⟩ := hd
  obtain ⟨rfl, hi⟩ := hi
  obtain ⟨z, hz, hset⟩ := eg_pos S kS 0 _ _ hk rfl
  obtain ⟨zV, hzV⟩ := eg_mem hkV hV
  rcases hca with rfl | hca
  · exact va_astq ok.1 ok.2.1 ok.2.2.2.2.2.2.2.1.1 hP hD hS z 6 zV ci hz rfl hzV hc hi hd (fun H1 locs1 q1 q2 q3 => kk ok H1 locs1 ls cells slots h1 h2 hl (by rw [hset] at q1; exact q1) (by rw [hset] at q2; exact q2) q3)
  · exact va_astqO ok.1 ok.2.1 ok.2.2.2.2.2.2.2.1.1 hP hD hS z 6 zV ci hz rfl (va_Nw.of rfl (ok.2.2.2.1 _ hca)) hzV hc hi hd (fun H1 locs1 q1 q2 q3 => kk ok H1 locs1 ls cells slots h1 h2 hl (by rw [hset] at q1; exact q1) (by rw [hset] at q2; exact q2) q3)
theorem ex_astN7 (kS : Nat) {a j N : Nat} {f : Nat → Option Nat} {i : Int32} (hd : dx μ pc .aastore 1 nx) (hk : S[kS]? = some [(a, .inl (eg_c G 7, N, .inr (.inr (.inr (.inr (f))))))]) (hi : ix i j N) (kk : Ex G Γ μ nx lv rest (S.set kS [(a, .inl (eg_c G 7, N, .inr (.inr (.inr (.inr (va_up f j none))))))]) n k) : Ex G Γ μ pc lv (.null :: .int i :: .ref a :: rest) S n k := by
  obtain ⟨p, l, e, R, s, m, args, below, meth, c, A, Q⟩ := Γ
  intro ok H locs ls cells slots h1 h2 hl hP hD hS
  obtain ⟨hd, rfl⟩ := hd
  obtain ⟨rfl, hi⟩ := hi
  obtain ⟨z, hz, hset⟩ := eg_pos S kS 0 _ _ hk rfl
  exact va_astqN ok.1 ok.2.1 ok.2.2.2.2.2.2.2.1.1 hP hD hS z 7 hz rfl hi hd (fun H1 locs1 q1 q2 q3 => kk ok H1 locs1 ls cells slots h1 h2 hl (by rw [hset] at q1; exact q1) (by rw [hset] at q2; exact q2) q3)
theorem ex_ast7 (kS : Nat) {a j N b ci : Nat} {C : String} {T : u_T} {M : Nat} {vs : List Value} {f : Nat → Option Nat} {i : Int32} (kV : Nat) {PV : va_W} (hd : dx μ pc .aastore 1 nx) (hk : S[kS]? = some [(a, .inl (eg_c G 7, N, .inr (.inr (.inr (.inr (f))))))]) (hi : ix i j N) (hkV : S[kV]? = some PV) (hV : (b, .inr (ci, vs)) ∈ PV) (hc : classes[ci]? = some (C, T, M)) (hca : C = "java/lang/Object" ∨ Cond.castable C "java/lang/Object" ∈ eg_ws) (kk : Ex G Γ μ nx lv rest (S.set kS [(a, .inl (eg_c G 7, N, .inr (.inr (.inr (.inr (va_up f j (some b)))))))]) n k) : Ex G Γ μ pc lv (.ref b :: .int i :: .ref a :: rest) S n k := by
  obtain ⟨p, l, e, R, s, m, args, below, meth, c, A, Q⟩ := Γ
  intro ok H locs ls cells slots h1 h2 hl hP hD hS
  obtain ⟨hd, rfl⟩ := hd
  obtain ⟨rfl, hi⟩ := hi
  obtain ⟨z, hz, hset⟩ := eg_pos S kS 0 _ _ hk rfl
  obtain ⟨zV, hzV⟩ := eg_mem hkV hV
  rcases hca with rfl | hca
  · exact va_astq ok.1 ok.2.1 ok.2.2.2.2.2.2.2.1.1 hP hD hS z 7 zV ci hz rfl hzV hc hi hd (fun H1 locs1 q1 q2 q3 => kk ok H1 locs1 ls cells slots h1 h2 hl (by rw [hset] at q1; exact q1) (by rw [hset] at q2; exact q2) q3)
  · exact va_astqO ok.1 ok.2.1 ok.2.2.2.2.2.2.2.1.1 hP hD hS z 7 zV ci hz rfl (va_Nw.of rfl (ok.2.2.2.1 _ hca)) hzV hc hi hd (fun H1 locs1 q1 q2 q3 => kk ok H1 locs1 ls cells slots h1 h2 hl (by rw [hset] at q1; exact q1) (by rw [hset] at q2; exact q2) q3)
theorem ex_alen (kS : Nat) {P : va_W} {a t : Nat} {A0 : vp_A} {ty : FieldType} (hd : dx μ pc .arraylength 1 nx) (hk : S[kS]? = some P) (hm : (a, .inl (eg_c G t, A0)) ∈ P) (ht : (eg_tys G)[t]? = some (eg_c G t, ty)) (kk : Ex G Γ μ nx lv (.int (nI A0.1) :: rest) S n k) : Ex G Γ μ pc lv (.ref a :: rest) S n k := by
  obtain ⟨p, l, e, R, s, m, args, below, meth, c, A, Q⟩ := Γ
  intro ok H locs ls cells slots h1 h2 hl hP hD hS
  obtain ⟨hd, rfl⟩ := hd
  obtain ⟨z, hz⟩ := eg_mem hk hm
  exact va_alen ok.1 ok.2.1 ok.2.2.2.2.2.2.2.1.1 hP z t hz ht rfl hd (kk ok H locs ls cells slots h1 h2 hl hP hD hS)
end EGH
