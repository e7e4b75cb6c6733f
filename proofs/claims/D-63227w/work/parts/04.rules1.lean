section EGR
variable {G : eg_G} {Γ : eg_C} {μ : eg_M} {pc nx tgt i n k : Nat} {lv : List (Option Value)} {rest : List Value} {S : eg_S} {x y : Int32} {off : Int}
/-- an instruction that pushes a constant int -/
def dk (μ : eg_M) (pc : Nat) (v : Int32) (nx : Nat) : Prop := (∃ z : Int, decode μ.2.1 pc = .ok (.iconst z, 1) ∧ Int32.ofInt z = v ∧ pc + 1 = nx) ∨ (∃ z : Int, decode μ.2.1 pc = .ok (.bipush z, 2) ∧ (Int8.ofInt z).toInt32 = v ∧ pc + 2 = nx) ∨ (∃ z : Int, decode μ.2.1 pc = .ok (.sipush z, 3) ∧ (Int16.ofInt z).toInt32 = v ∧ pc + 3 = nx) ∨ (∃ z : Nat, decode μ.2.1 pc = .ok (.ldc z, 2) ∧ Cond.constant μ.1 z v ∈ eg_ws ∧ pc + 2 = nx)
def di (μ : eg_M) (pc i nx : Nat) : Prop := (∃ j : Fin 4, decode μ.2.1 pc = .ok (.iload_n j, 1) ∧ (j : Nat) = i ∧ pc + 1 = nx) ∨ (decode μ.2.1 pc = .ok (.iload i, 2) ∧ pc + 2 = nx)
def da (μ : eg_M) (pc i nx : Nat) : Prop := (∃ j : Fin 4, decode μ.2.1 pc = .ok (.aload_n j, 1) ∧ (j : Nat) = i ∧ pc + 1 = nx) ∨ (decode μ.2.1 pc = .ok (.aload i, 2) ∧ pc + 2 = nx)
def ds (μ : eg_M) (pc i nx : Nat) : Prop := (∃ j : Fin 4, decode μ.2.1 pc = .ok (.istore_n j, 1) ∧ (j : Nat) = i ∧ pc + 1 = nx) ∨ (decode μ.2.1 pc = .ok (.istore i, 2) ∧ pc + 2 = nx)
def dt (μ : eg_M) (pc i nx : Nat) : Prop := (∃ j : Fin 4, decode μ.2.1 pc = .ok (.astore_n j, 1) ∧ (j : Nat) = i ∧ pc + 1 = nx) ∨ (decode μ.2.1 pc = .ok (.astore i, 2) ∧ pc + 2 = nx)
/-- the locals as a list of places -/
def eg_al (lv : List (Option Value)) : List (Nat × Value) := (List.range lv.length).filterMap (fun i => (lv[i]?).join.map (fun v => (i, v)))
theorem eg_al_mem {lv : List (Option Value)} {q : Nat × Value} : q ∈ eg_al lv ↔ lv[q.1]? = some (some q.2) := by
  obtain ⟨i, v⟩ := q
  unfold eg_al
  rw [List.mem_filterMap]
  constructor
  · rintro ⟨j, -, hj⟩
    cases hq : lv[j]? with
    | none => rw [hq] at hj; cases hj
    | some o =>
      cases o with
      | none => rw [hq] at hj; cases hj
      | some w => rw [hq] at hj; cases hj; exact hq
  · intro h
    refine ⟨i, List.mem_range.mpr (List.getElem?_eq_some_iff.mp h).1, ?_⟩
    show (lv[i]?).join.map (fun v => (i, v)) = some (i, v)
    rw [show lv[i]? = some (some v) from h]
    rfl
theorem eg_L.has {ls : Array Slot} {c : Code} {lv : List (Option Value)} (h : eg_L ls c lv) : lv_has ls c.maxLocals (eg_al lv) := ⟨h.1, h.2.2.1, fun q hq => (h.2.2.2 q.1 q.2 (eg_al_mem.mp hq)).1⟩
theorem eg_L.put {ls ls' : Array Slot} {c : Code} {lv : List (Option Value)} {i : Nat} {v : Value} (h : eg_L ls c lv) (hc : v.category = 1) (h' : lv_has ls' c.maxLocals ((i, v) :: (eg_al lv).filter (fun q => !(q.1 == i) && !(q.1 + 1 == i && q.2.category == 2)))) : eg_L ls' c (lv.set i (some v)) := by
  refine ⟨h'.1, by rw [List.length_set]; exact h.2.1, h'.2.1, fun j w hj => ?_⟩
  by_cases hji : j = i
  · subst hji
    have hlt : j < lv.length := by
      have := (List.getElem?_eq_some_iff.mp hj).1
      rwa [List.length_set] at this
    rw [List.getElem?_set_self hlt] at hj
    cases hj
    exact ⟨h'.2.2 (j, v) List.mem_cons_self, hc⟩
  · rw [List.getElem?_set_ne (Ne.symm hji)] at hj
    have hw := (h.2.2.2 j w hj).2
    refine ⟨h'.2.2 (j, w) (List.mem_cons_of_mem _ (List.mem_filter.mpr ⟨eg_al_mem.mpr hj, ?_⟩)), hw⟩
    simp [hji, hw]
theorem eg_L.lt {ls : Array Slot} {c : Code} {lv : List (Option Value)} {i : Nat} (h : eg_L ls c lv) (hi : i < lv.length) : i < c.maxLocals := by rw [← h.2.1]; exact hi
/-- fewer locals are known -/
theorem ex_mask (lv' : List (Option Value)) (hlen : lv'.length = lv.length) (hm : ∀ (i : Nat) (v : Value), lv'[i]? = some (some v) → lv[i]? = some (some v)) {st : List Value} (kk : Ex G Γ μ pc lv' st S n k) : Ex G Γ μ pc lv st S n k := by
  obtain ⟨p, l, e, R, s, m, args, below, meth, c, A, Q⟩ := Γ
  intro ok H locs ls cells slots h1 h2 hl hP hD hS
  exact kk ok H locs ls cells slots h1 h2 ⟨hl.1, by rw [hlen]; exact hl.2.1, hl.2.2.1, fun i v hi => hl.2.2.2 i v (hm i v hi)⟩ hP hD hS
def eg_mk : List Bool → List (Option Value) → List (Option Value)
  | true :: bs, a :: l => a :: eg_mk bs l
  | false :: bs, _ :: l => none :: eg_mk bs l
  | [], l => l
  | _, [] => []
theorem eg_mk_ok : ∀ (bs : List Bool) (lv : List (Option Value)), (eg_mk bs lv).length = lv.length ∧ ∀ (i : Nat) (v : Value), (eg_mk bs lv)[i]? = some (some v) → lv[i]? = some (some v)
  | [], lv => ⟨by cases lv <;> rfl, fun i v h => by cases lv <;> exact h⟩
  | b :: bs, [] => ⟨by cases b <;> rfl, fun i v h => by cases b <;> exact h⟩
  | true :: bs, a :: l => by
    obtain ⟨h1, h2⟩ := eg_mk_ok bs l
    refine ⟨by show (eg_mk bs l).length + 1 = l.length + 1; rw [h1], fun i v h => ?_⟩
    cases i with
    | zero => exact h
    | succ i => exact h2 i v h
  | false :: bs, a :: l => by
    obtain ⟨h1, h2⟩ := eg_mk_ok bs l
    refine ⟨by show (eg_mk bs l).length + 1 = l.length + 1; rw [h1], fun i v h => ?_⟩
    cases i with
    | zero => cases h
    | succ i => exact h2 i v h
theorem ex_forget (bs : List Bool) {st : List Value} (kk : Ex G Γ μ pc (eg_mk bs lv) st S n k) : Ex G Γ μ pc lv st S n k := ex_mask _ (eg_mk_ok bs lv).1 (eg_mk_ok bs lv).2 kk
theorem ex_k {v : Int32} (hd : dk μ pc v nx) (kk : Ex G Γ μ nx lv (.int v :: rest) S n k) : Ex G Γ μ pc lv rest S n k := by
  obtain ⟨p, l, e, R, s, m, args, below, meth, c, A, Q⟩ := Γ
  intro ok H locs ls cells slots h1 h2 hl hP hD hS
  rcases hd with ⟨z, hd, hv, rfl⟩ | ⟨z, hd, hv, rfl⟩ | ⟨z, hd, hv, rfl⟩ | ⟨z, hd, hv, rfl⟩
  · exact lv_iconst ok.1 ok.2.1 hd hv (kk ok H locs ls cells slots h1 h2 hl hP hD hS)
  · exact lv_bipush ok.1 ok.2.1 hd hv (kk ok H locs ls cells slots h1 h2 hl hP hD hS)
  · exact lv_sipush ok.1 ok.2.1 hd hv (kk ok H locs ls cells slots h1 h2 hl hP hD hS)
  · exact lv_ldc ok.1 ok.2.1 ok.2.2.1 (ok.2.2.2.1 _ hv) hd (kk ok H locs ls cells slots h1 h2 hl hP hD hS)
theorem ex_il (hd : di μ pc i nx) (hv : lv[i]? = some (some (.int x))) (kk : Ex G Γ μ nx lv (.int x :: rest) S n k) : Ex G Γ μ pc lv rest S n k := by
  obtain ⟨p, l, e, R, s, m, args, below, meth, c, A, Q⟩ := Γ
  intro ok H locs ls cells slots h1 h2 hl hP hD hS
  rcases hd with ⟨j, hd, hj, rfl⟩ | ⟨hd, rfl⟩
  · exact lv_iload_n ok.1 ok.2.1 hd hj (hl.2.2.2 i _ hv).1 (kk ok H locs ls cells slots h1 h2 hl hP hD hS)
  · exact lv_iload ok.1 ok.2.1 hd (hl.2.2.2 i _ hv).1 (kk ok H locs ls cells slots h1 h2 hl hP hD hS)
theorem ex_al {a : Nat} (hd : da μ pc i nx) (hv : lv[i]? = some (some (.ref a))) (kk : Ex G Γ μ nx lv (.ref a :: rest) S n k) : Ex G Γ μ pc lv rest S n k := by
  obtain ⟨p, l, e, R, s, m, args, below, meth, c, A, Q⟩ := Γ
  intro ok H locs ls cells slots h1 h2 hl hP hD hS
  rcases hd with ⟨j, hd, hj, rfl⟩ | ⟨hd, rfl⟩
  · exact lv_aload_n ok.1 ok.2.1 hd hj (hl.2.2.2 i _ hv).1 (kk ok H locs ls cells slots h1 h2 hl hP hD hS)
  · exact lv_aload ok.1 ok.2.1 hd (hl.2.2.2 i _ hv).1 (kk ok H locs ls cells slots h1 h2 hl hP hD hS)
theorem ex_alN (hd : da μ pc i nx) (hv : lv[i]? = some (some .null)) (kk : Ex G Γ μ nx lv (.null :: rest) S n k) : Ex G Γ μ pc lv rest S n k := by
  obtain ⟨p, l, e, R, s, m, args, below, meth, c, A, Q⟩ := Γ
  intro ok H locs ls cells slots h1 h2 hl hP hD hS
  rcases hd with ⟨j, hd, hj, rfl⟩ | ⟨hd, rfl⟩
  · exact lv_aload_nN ok.1 ok.2.1 hd hj (hl.2.2.2 i _ hv).1 (kk ok H locs ls cells slots h1 h2 hl hP hD hS)
  · exact lv_aloadN ok.1 ok.2.1 hd (hl.2.2.2 i _ hv).1 (kk ok H locs ls cells slots h1 h2 hl hP hD hS)
theorem ex_alq {r : Option Nat} (hd : da μ pc i nx) (hv : lv[i]? = some (some (va_rf r))) (kk : Ex G Γ μ nx lv (va_rf r :: rest) S n k) : Ex G Γ μ pc lv rest S n k := by
  cases r with
  | none => exact ex_alN hd hv kk
  | some a => exact ex_al hd hv kk
theorem ex_is (hd : ds μ pc i nx) (hi : i < lv.length) (kk : Ex G Γ μ nx (lv.set i (some (.int x))) rest S n k) : Ex G Γ μ pc lv (.int x :: rest) S n k := by
  obtain ⟨p, l, e, R, s, m, args, below, meth, c, A, Q⟩ := Γ
  intro ok H locs ls cells slots h1 h2 hl hP hD hS
  rcases hd with ⟨j, hd, hj, rfl⟩ | ⟨hd, rfl⟩
  · exact lv_istore_n ok.1 ok.2.1 hd hj hl.has (hl.lt hi) rfl (fun ls' h' => kk ok H locs ls' cells slots h1 h2 (hl.put rfl h') hP hD hS)
  · exact lv_istore ok.1 ok.2.1 hd hl.has (hl.lt hi) rfl (fun ls' h' => kk ok H locs ls' cells slots h1 h2 (hl.put rfl h') hP hD hS)
theorem ex_as {a : Nat} (hd : dt μ pc i nx) (hi : i < lv.length) (kk : Ex G Γ μ nx (lv.set i (some (.ref a))) rest S n k) : Ex G Γ μ pc lv (.ref a :: rest) S n k := by
  obtain ⟨p, l, e, R, s, m, args, below, meth, c, A, Q⟩ := Γ
  intro ok H locs ls cells slots h1 h2 hl hP hD hS
  rcases hd with ⟨j, hd, hj, rfl⟩ | ⟨hd, rfl⟩
  · exact lv_astore_n ok.1 ok.2.1 hd hj hl.has (hl.lt hi) rfl (fun ls' h' => kk ok H locs ls' cells slots h1 h2 (hl.put rfl h') hP hD hS)
  · exact lv_astore ok.1 ok.2.1 hd hl.has (hl.lt hi) rfl (fun ls' h' => kk ok H locs ls' cells slots h1 h2 (hl.put rfl h') hP hD hS)
theorem ex_asN (hd : dt μ pc i nx) (hi : i < lv.length) (kk : Ex G Γ μ nx (lv.set i (some .null)) rest S n k) : Ex G Γ μ pc lv (.null :: rest) S n k := by
  obtain ⟨p, l, e, R, s, m, args, below, meth, c, A, Q⟩ := Γ
  intro ok H locs ls cells slots h1 h2 hl hP hD hS
  rcases hd with ⟨j, hd, hj, rfl⟩ | ⟨hd, rfl⟩
  · exact lv_astore_nN ok.1 ok.2.1 hd hj hl.has (hl.lt hi) rfl (fun ls' h' => kk ok H locs ls' cells slots h1 h2 (hl.put rfl h') hP hD hS)
  · exact lv_astoreN ok.1 ok.2.1 hd hl.has (hl.lt hi) rfl (fun ls' h' => kk ok H locs ls' cells slots h1 h2 (hl.put rfl h') hP hD hS)
theorem ex_asq {r : Option Nat} (hd : dt μ pc i nx) (hi : i < lv.length) (kk : Ex G Γ μ nx (lv.set i (some (va_rf r))) rest S n k) : Ex G Γ μ pc lv (va_rf r :: rest) S n k := by
  cases r with
  | none => exact ex_asN hd hi kk
  | some a => exact ex_as hd hi kk
theorem ex_iinc {z : Int} (hd : dx μ pc (.iinc i z) 3 nx) (hv : lv[i]? = some (some (.int x))) (kk : Ex G Γ μ nx (lv.set i (some (.int (x + Int32.ofInt z)))) rest S n k) : Ex G Γ μ pc lv rest S n k := by
  obtain ⟨p, l, e, R, s, m, args, below, meth, c, A, Q⟩ := Γ
  intro ok H locs ls cells slots h1 h2 hl hP hD hS
  obtain ⟨hd, rfl⟩ := hd
  have hi := (List.getElem?_eq_some_iff.mp hv).1
  obtain ⟨j, hj⟩ := List.getElem?_of_mem ((eg_al_mem (q := (i, .int x))).mpr hv)
  exact lv_iinc ok.1 ok.2.1 hd hl.has hj rfl (hl.lt hi) rfl (fun ls' h' => kk ok H locs ls' cells slots h1 h2 (hl.put rfl h') hP hD hS)
theorem ex_iadd (hd : dx μ pc .iadd 1 nx) (kk : Ex G Γ μ nx lv (.int (x + y) :: rest) S n k) : Ex G Γ μ pc lv (.int y :: .int x :: rest) S n k := by
  obtain ⟨p, l, e, R, s, m, args, below, meth, c, A, Q⟩ := Γ
  intro ok H locs ls cells slots h1 h2 hl hP hD hS
  obtain ⟨hd, rfl⟩ := hd
  exact lv_iadd ok.1 ok.2.1 hd (kk ok H locs ls cells slots h1 h2 hl hP hD hS)
theorem ex_isub (hd : dx μ pc .isub 1 nx) (kk : Ex G Γ μ nx lv (.int (x - y) :: rest) S n k) : Ex G Γ μ pc lv (.int y :: .int x :: rest) S n k := by
  obtain ⟨p, l, e, R, s, m, args, below, meth, c, A, Q⟩ := Γ
  intro ok H locs ls cells slots h1 h2 hl hP hD hS
  obtain ⟨hd, rfl⟩ := hd
  exact lv_isub ok.1 ok.2.1 hd (kk ok H locs ls cells slots h1 h2 hl hP hD hS)
theorem ex_imul (hd : dx μ pc .imul 1 nx) (kk : Ex G Γ μ nx lv (.int (x * y) :: rest) S n k) : Ex G Γ μ pc lv (.int y :: .int x :: rest) S n k := by
  obtain ⟨p, l, e, R, s, m, args, below, meth, c, A, Q⟩ := Γ
  intro ok H locs ls cells slots h1 h2 hl hP hD hS
  obtain ⟨hd, rfl⟩ := hd
  exact lv_imul ok.1 ok.2.1 hd (kk ok H locs ls cells slots h1 h2 hl hP hD hS)
theorem ex_iand (hd : dx μ pc .iand 1 nx) (kk : Ex G Γ μ nx lv (.int (x &&& y) :: rest) S n k) : Ex G Γ μ pc lv (.int y :: .int x :: rest) S n k := by
  obtain ⟨p, l, e, R, s, m, args, below, meth, c, A, Q⟩ := Γ
  intro ok H locs ls cells slots h1 h2 hl hP hD hS
  obtain ⟨hd, rfl⟩ := hd
  exact lv_iand ok.1 ok.2.1 hd (kk ok H locs ls cells slots h1 h2 hl hP hD hS)
theorem ex_ior (hd : dx μ pc .ior 1 nx) (kk : Ex G Γ μ nx lv (.int (x ||| y) :: rest) S n k) : Ex G Γ μ pc lv (.int y :: .int x :: rest) S n k := by
  obtain ⟨p, l, e, R, s, m, args, below, meth, c, A, Q⟩ := Γ
  intro ok H locs ls cells slots h1 h2 hl hP hD hS
  obtain ⟨hd, rfl⟩ := hd
  exact lv_ior ok.1 ok.2.1 hd (kk ok H locs ls cells slots h1 h2 hl hP hD hS)
theorem ex_ixor (hd : dx μ pc .ixor 1 nx) (kk : Ex G Γ μ nx lv (.int (x ^^^ y) :: rest) S n k) : Ex G Γ μ pc lv (.int y :: .int x :: rest) S n k := by
  obtain ⟨p, l, e, R, s, m, args, below, meth, c, A, Q⟩ := Γ
  intro ok H locs ls cells slots h1 h2 hl hP hD hS
  obtain ⟨hd, rfl⟩ := hd
  exact lv_ixor ok.1 ok.2.1 hd (kk ok H locs ls cells slots h1 h2 hl hP hD hS)
theorem ex_ishl (hd : dx μ pc .ishl 1 nx) (kk : Ex G Γ μ nx lv (.int (x <<< (y &&& 31)) :: rest) S n k) : Ex G Γ μ pc lv (.int y :: .int x :: rest) S n k := by
  obtain ⟨p, l, e, R, s, m, args, below, meth, c, A, Q⟩ := Γ
  intro ok H locs ls cells slots h1 h2 hl hP hD hS
  obtain ⟨hd, rfl⟩ := hd
  exact lv_ishl ok.1 ok.2.1 hd (kk ok H locs ls cells slots h1 h2 hl hP hD hS)
theorem ex_ishr (hd : dx μ pc .ishr 1 nx) (kk : Ex G Γ μ nx lv (.int (x >>> (y &&& 31)) :: rest) S n k) : Ex G Γ μ pc lv (.int y :: .int x :: rest) S n k := by
  obtain ⟨p, l, e, R, s, m, args, below, meth, c, A, Q⟩ := Γ
  intro ok H locs ls cells slots h1 h2 hl hP hD hS
  obtain ⟨hd, rfl⟩ := hd
  exact lv_ishr ok.1 ok.2.1 hd (kk ok H locs ls cells slots h1 h2 hl hP hD hS)
theorem ex_iushr (hd : dx μ pc .iushr 1 nx) (kk : Ex G Γ μ nx lv (.int ((x.toUInt32 >>> (y.toUInt32 &&& Int32.toUInt32 31)).toInt32) :: rest) S n k) : Ex G Γ μ pc lv (.int y :: .int x :: rest) S n k := by
  obtain ⟨p, l, e, R, s, m, args, below, meth, c, A, Q⟩ := Γ
  intro ok H locs ls cells slots h1 h2 hl hP hD hS
  obtain ⟨hd, rfl⟩ := hd
  exact lv_iushr ok.1 ok.2.1 hd rfl (kk ok H locs ls cells slots h1 h2 hl hP hD hS)
theorem ex_idiv (hd : dx μ pc .idiv 1 nx) (hne : ¬ y = 0) (kk : Ex G Γ μ nx lv (.int (x / y) :: rest) S n k) : Ex G Γ μ pc lv (.int y :: .int x :: rest) S n k := by
  obtain ⟨p, l, e, R, s, m, args, below, meth, c, A, Q⟩ := Γ
  intro ok H locs ls cells slots h1 h2 hl hP hD hS
  obtain ⟨hd, rfl⟩ := hd
  exact lv_idiv ok.1 ok.2.1 hd hne (kk ok H locs ls cells slots h1 h2 hl hP hD hS)
theorem ex_irem (hd : dx μ pc .irem 1 nx) (hne : ¬ y = 0) (kk : Ex G Γ μ nx lv (.int (x - x / y * y) :: rest) S n k) : Ex G Γ μ pc lv (.int y :: .int x :: rest) S n k := by
  obtain ⟨p, l, e, R, s, m, args, below, meth, c, A, Q⟩ := Γ
  intro ok H locs ls cells slots h1 h2 hl hP hD hS
  obtain ⟨hd, rfl⟩ := hd
  exact lv_irem ok.1 ok.2.1 hd hne (kk ok H locs ls cells slots h1 h2 hl hP hD hS)
theorem ex_ineg (hd : dx μ pc .ineg 1 nx) (kk : Ex G Γ μ nx lv (.int (-x) :: rest) S n k) : Ex G Γ μ pc lv (.int x :: rest) S n k := by
  obtain ⟨p, l, e, R, s, m, args, below, meth, c, A, Q⟩ := Γ
  intro ok H locs ls cells slots h1 h2 hl hP hD hS
  obtain ⟨hd, rfl⟩ := hd
  exact lv_ineg ok.1 ok.2.1 hd (kk ok H locs ls cells slots h1 h2 hl hP hD hS)
theorem ex_i2b (hd : dx μ pc .i2b 1 nx) (kk : Ex G Γ μ nx lv (.int (x.toInt8.toInt32) :: rest) S n k) : Ex G Γ μ pc lv (.int x :: rest) S n k := by
  obtain ⟨p, l, e, R, s, m, args, below, meth, c, A, Q⟩ := Γ
  intro ok H locs ls cells slots h1 h2 hl hP hD hS
  obtain ⟨hd, rfl⟩ := hd
  exact lv_i2b ok.1 ok.2.1 hd rfl (kk ok H locs ls cells slots h1 h2 hl hP hD hS)
theorem ex_i2s (hd : dx μ pc .i2s 1 nx) (kk : Ex G Γ μ nx lv (.int (x.toInt16.toInt32) :: rest) S n k) : Ex G Γ μ pc lv (.int x :: rest) S n k := by
  obtain ⟨p, l, e, R, s, m, args, below, meth, c, A, Q⟩ := Γ
  intro ok H locs ls cells slots h1 h2 hl hP hD hS
  obtain ⟨hd, rfl⟩ := hd
  exact lv_i2s ok.1 ok.2.1 hd rfl (kk ok H locs ls cells slots h1 h2 hl hP hD hS)
theorem ex_i2l (hd : dx μ pc .i2l 1 nx) (kk : Ex G Γ μ nx lv (.long (x.toInt64) :: rest) S n k) : Ex G Γ μ pc lv (.int x :: rest) S n k := by
  obtain ⟨p, l, e, R, s, m, args, below, meth, c, A, Q⟩ := Γ
  intro ok H locs ls cells slots h1 h2 hl hP hD hS
  obtain ⟨hd, rfl⟩ := hd
  exact lv_i2l ok.1 ok.2.1 hd rfl (kk ok H locs ls cells slots h1 h2 hl hP hD hS)
theorem ex_lcmp {w z : Int64} (hd : dx μ pc .lcmp 1 nx) (kk : Ex G Γ μ nx lv (.int (lg_cmp w z) :: rest) S n k) : Ex G Γ μ pc lv (.long z :: .long w :: rest) S n k := by
  obtain ⟨p, l, e, R, s, m, args, below, meth, c, A, Q⟩ := Γ
  intro ok H locs ls cells slots h1 h2 hl hP hD hS
  obtain ⟨hd, rfl⟩ := hd
  exact W.lcmp ok.1 ok.2.1 hd (kk ok H locs ls cells slots h1 h2 hl hP hD hS)
theorem ex_null (hd : dx μ pc .aconst_null 1 nx) (kk : Ex G Γ μ nx lv (.null :: rest) S n k) : Ex G Γ μ pc lv (rest) S n k := by
  obtain ⟨p, l, e, R, s, m, args, below, meth, c, A, Q⟩ := Γ
  intro ok H locs ls cells slots h1 h2 hl hP hD hS
  obtain ⟨hd, rfl⟩ := hd
  exact lv_null ok.1 ok.2.1 hd (kk ok H locs ls cells slots h1 h2 hl hP hD hS)
theorem ex_dup {v : Value} (hd : dx μ pc .dup 1 nx) (hc : v.category = 1) (kk : Ex G Γ μ nx lv (v :: v :: rest) S n k) : Ex G Γ μ pc lv (v :: rest) S n k := by
  obtain ⟨p, l, e, R, s, m, args, below, meth, c, A, Q⟩ := Γ
  intro ok H locs ls cells slots h1 h2 hl hP hD hS
  obtain ⟨hd, rfl⟩ := hd
  exact lv_dup ok.1 ok.2.1 hd hc (kk ok H locs ls cells slots h1 h2 hl hP hD hS)
theorem ex_pop {v : Value} (hd : dx μ pc .pop 1 nx) (hc : v.category = 1) (kk : Ex G Γ μ nx lv (rest) S n k) : Ex G Γ μ pc lv (v :: rest) S n k := by
  obtain ⟨p, l, e, R, s, m, args, below, meth, c, A, Q⟩ := Γ
  intro ok H locs ls cells slots h1 h2 hl hP hD hS
  obtain ⟨hd, rfl⟩ := hd
  exact lv_pop ok.1 ok.2.1 hd hc (kk ok H locs ls cells slots h1 h2 hl hP hD hS)
theorem ex_dup_x1 {v w : Value} (hd : dx μ pc .dup_x1 1 nx) (hc : v.category = 1) (hw : w.category = 1) (kk : Ex G Γ μ nx lv (v :: w :: v :: rest) S n k) : Ex G Γ μ pc lv (v :: w :: rest) S n k := by
  obtain ⟨p, l, e, R, s, m, args, below, meth, c, A, Q⟩ := Γ
  intro ok H locs ls cells slots h1 h2 hl hP hD hS
  obtain ⟨hd, rfl⟩ := hd
  exact lv_dup_x1 ok.1 ok.2.1 hd hc hw (kk ok H locs ls cells slots h1 h2 hl hP hD hS)
theorem ex_goto (hd : dj μ pc (.goto off) off nx tgt) (kk : Ex G Γ μ tgt lv rest S n k) : Ex G Γ μ pc lv rest S n k := by
  obtain ⟨p, l, e, R, s, m, args, below, meth, c, A, Q⟩ := Γ
  intro ok H locs ls cells slots h1 h2 hl hP hD hS
  exact lv_goto ok.1 ok.2.1 hd.1 hd.2.2 (kk ok H locs ls cells slots h1 h2 hl hP hD hS)
theorem ex_if_eq (hd : dj μ pc (.ifCond .eq off) off nx tgt) (kt : x = 0 → Ex G Γ μ tgt lv rest S n k) (kf : ¬ x = 0 → Ex G Γ μ nx lv rest S n k) : Ex G Γ μ pc lv (.int x :: rest) S n k := by
  obtain ⟨p, l, e, R, s, m, args, below, meth, c, A, Q⟩ := Γ
  intro ok H locs ls cells slots h1 h2 hl hP hD hS
  obtain ⟨hd, rfl, ht⟩ := hd
  exact lv_if_eq ok.1 ok.2.1 hd ht (fun h => kt h ok H locs ls cells slots h1 h2 hl hP hD hS) (fun h => kf h ok H locs ls cells slots h1 h2 hl hP hD hS)
theorem ex_icmp_eq (hd : dj μ pc (.if_icmp .eq off) off nx tgt) (kt : x = y → Ex G Γ μ tgt lv rest S n k) (kf : ¬ x = y → Ex G Γ μ nx lv rest S n k) : Ex G Γ μ pc lv (.int y :: .int x :: rest) S n k := by
  obtain ⟨p, l, e, R, s, m, args, below, meth, c, A, Q⟩ := Γ
  intro ok H locs ls cells slots h1 h2 hl hP hD hS
  obtain ⟨hd, rfl, ht⟩ := hd
  exact lv_icmp_eq ok.1 ok.2.1 hd ht (fun h => kt h ok H locs ls cells slots h1 h2 hl hP hD hS) (fun h => kf h ok H locs ls cells slots h1 h2 hl hP hD hS)
theorem ex_if_ne (hd : dj μ pc (.ifCond .ne off) off nx tgt) (kt : ¬ x = 0 → Ex G Γ μ tgt lv rest S n k) (kf : x = 0 → Ex G Γ μ nx lv rest S n k) : Ex G Γ μ pc lv (.int x :: rest) S n k := by
  obtain ⟨p, l, e, R, s, m, args, below, meth, c, A, Q⟩ := Γ
  intro ok H locs ls cells slots h1 h2 hl hP hD hS
  obtain ⟨hd, rfl, ht⟩ := hd
  exact lv_if_ne ok.1 ok.2.1 hd ht (fun h => kt h ok H locs ls cells slots h1 h2 hl hP hD hS) (fun h => kf h ok H locs ls cells slots h1 h2 hl hP hD hS)
theorem ex_icmp_ne (hd : dj μ pc (.if_icmp .ne off) off nx tgt) (kt : ¬ x = y → Ex G Γ μ tgt lv rest S n k) (kf : x = y → Ex G Γ μ nx lv rest S n k) : Ex G Γ μ pc lv (.int y :: .int x :: rest) S n k := by
  obtain ⟨p, l, e, R, s, m, args, below, meth, c, A, Q⟩ := Γ
  intro ok H locs ls cells slots h1 h2 hl hP hD hS
  obtain ⟨hd, rfl, ht⟩ := hd
  exact lv_icmp_ne ok.1 ok.2.1 hd ht (fun h => kt h ok H locs ls cells slots h1 h2 hl hP hD hS) (fun h => kf h ok H locs ls cells slots h1 h2 hl hP hD hS)
theorem ex_if_lt (hd : dj μ pc (.ifCond .lt off) off nx tgt) (kt : x < 0 → Ex G Γ μ tgt lv rest S n k) (kf : ¬ x < 0 → Ex G Γ μ nx lv rest S n k) : Ex G Γ μ pc lv (.int x :: rest) S n k := by
  obtain ⟨p, l, e, R, s, m, args, below, meth, c, A, Q⟩ := Γ
  intro ok H locs ls cells slots h1 h2 hl hP hD hS
  obtain ⟨hd, rfl, ht⟩ := hd
  exact lv_if_lt ok.1 ok.2.1 hd ht (fun h => kt h ok H locs ls cells slots h1 h2 hl hP hD hS) (fun h => kf h ok H locs ls cells slots h1 h2 hl hP hD hS)
theorem ex_icmp_lt (hd : dj μ pc (.if_icmp .lt off) off nx tgt) (kt : x < y → Ex G Γ μ tgt lv rest S n k) (kf : ¬ x < y → Ex G Γ μ nx lv rest S n k) : Ex G Γ μ pc lv (.int y :: .int x :: rest) S n k := by
  obtain ⟨p, l, e, R, s, m, args, below, meth, c, A, Q⟩ := Γ
  intro ok H locs ls cells slots h1 h2 hl hP hD hS
  obtain ⟨hd, rfl, ht⟩ := hd
  exact lv_icmp_lt ok.1 ok.2.1 hd ht (fun h => kt h ok H locs ls cells slots h1 h2 hl hP hD hS) (fun h => kf h ok H locs ls cells slots h1 h2 hl hP hD hS)
theorem ex_if_ge (hd : dj μ pc (.ifCond .ge off) off nx tgt) (kt : 0 ≤ x → Ex G Γ μ tgt lv rest S n k) (kf : ¬ 0 ≤ x → Ex G Γ μ nx lv rest S n k) : Ex G Γ μ pc lv (.int x :: rest) S n k := by
  obtain ⟨p, l, e, R, s, m, args, below, meth, c, A, Q⟩ := Γ
  intro ok H locs ls cells slots h1 h2 hl hP hD hS
  obtain ⟨hd, rfl, ht⟩ := hd
  exact lv_if_ge ok.1 ok.2.1 hd ht (fun h => kt h ok H locs ls cells slots h1 h2 hl hP hD hS) (fun h => kf h ok H locs ls cells slots h1 h2 hl hP hD hS)
theorem ex_icmp_ge (hd : dj μ pc (.if_icmp .ge off) off nx tgt) (kt : y ≤ x → Ex G Γ μ tgt lv rest S n k) (kf : ¬ y ≤ x → Ex G Γ μ nx lv rest S n k) : Ex G Γ μ pc lv (.int y :: .int x :: rest) S n k := by
  obtain ⟨p, l, e, R, s, m, args, below, meth, c, A, Q⟩ := Γ
  intro ok H locs ls cells slots h1 h2 hl hP hD hS
  obtain ⟨hd, rfl, ht⟩ := hd
  exact lv_icmp_ge ok.1 ok.2.1 hd ht (fun h => kt h ok H locs ls cells slots h1 h2 hl hP hD hS) (fun h => kf h ok H locs ls cells slots h1 h2 hl hP hD hS)
theorem ex_if_gt (hd : dj μ pc (.ifCond .gt off) off nx tgt) (kt : 0 < x → Ex G Γ μ tgt lv rest S n k) (kf : ¬ 0 < x → Ex G Γ μ nx lv rest S n k) : Ex G Γ μ pc lv (.int x :: rest) S n k := by
  obtain ⟨p, l, e, R, s, m, args, below, meth, c, A, Q⟩ := Γ
  intro ok H locs ls cells slots h1 h2 hl hP hD hS
  obtain ⟨hd, rfl, ht⟩ := hd
  exact lv_if_gt ok.1 ok.2.1 hd ht (fun h => kt h ok H locs ls cells slots h1 h2 hl hP hD hS) (fun h => kf h ok H locs ls cells slots h1 h2 hl hP hD hS)
theorem ex_icmp_gt (hd : dj μ pc (.if_icmp .gt off) off nx tgt) (kt : y < x → Ex G Γ μ tgt lv rest S n k) (kf : ¬ y < x → Ex G Γ μ nx lv rest S n k) : Ex G Γ μ pc lv (.int y :: .int x :: rest) S n k := by
  obtain ⟨p, l, e, R, s, m, args, below, meth, c, A, Q⟩ := Γ
  intro ok H locs ls cells slots h1 h2 hl hP hD hS
  obtain ⟨hd, rfl, ht⟩ := hd
  exact lv_icmp_gt ok.1 ok.2.1 hd ht (fun h => kt h ok H locs ls cells slots h1 h2 hl hP hD hS) (fun h => kf h ok H locs ls cells slots h1 h2 hl hP hD hS)
theorem ex_if_le (hd : dj μ pc (.ifCond .le off) off nx tgt) (kt : x ≤ 0 → Ex G Γ μ tgt lv rest S n k) (kf : ¬ x ≤ 0 → Ex G Γ μ nx lv rest S n k) : Ex G Γ μ pc lv (.int x :: rest) S n k := by
  obtain ⟨p, l, e, R, s, m, args, below, meth, c, A, Q⟩ := Γ
  intro ok H locs ls cells slots h1 h2 hl hP hD hS
  obtain ⟨hd, rfl, ht⟩ := hd
  exact lv_if_le ok.1 ok.2.1 hd ht (fun h => kt h ok H locs ls cells slots h1 h2 hl hP hD hS) (fun h => kf h ok H locs ls cells slots h1 h2 hl hP hD hS)
theorem ex_icmp_le (hd : dj μ pc (.if_icmp .le off) off nx tgt) (kt : x ≤ y → Ex G Γ μ tgt lv rest S n k) (kf : ¬ x ≤ y → Ex G Γ μ nx lv rest S n k) : Ex G Γ μ pc lv (.int y :: .int x :: rest) S n k := by
  obtain ⟨p, l, e, R, s, m, args, below, meth, c, A, Q⟩ := Γ
  intro ok H locs ls cells slots h1 h2 hl hP hD hS
  obtain ⟨hd, rfl, ht⟩ := hd
  exact lv_icmp_le ok.1 ok.2.1 hd ht (fun h => kt h ok H locs ls cells slots h1 h2 hl hP hD hS) (fun h => kf h ok H locs ls cells slots h1 h2 hl hP hD hS)
theorem ex_ifnull {r : Option Nat} (hd : dj μ pc (.ifnull off) off nx tgt) (kt : r = none → Ex G Γ μ tgt lv rest S n k) (kf : ∀ a : Nat, r = some a → Ex G Γ μ nx lv rest S n k) : Ex G Γ μ pc lv (va_rf r :: rest) S n k := by
  obtain ⟨p, l, e, R, s, m, args, below, meth, c, A, Q⟩ := Γ
  intro ok H locs ls cells slots h1 h2 hl hP hD hS
  obtain ⟨hd, rfl, ht⟩ := hd
  cases r with
  | none => exact lv_ifnullN ok.1 ok.2.1 hd ht (kt rfl ok H locs ls cells slots h1 h2 hl hP hD hS)
  | some a => exact lv_ifnull ok.1 ok.2.1 hd (kf a rfl ok H locs ls cells slots h1 h2 hl hP hD hS)
theorem ex_ifnonnull {r : Option Nat} (hd : dj μ pc (.ifnonnull off) off nx tgt) (kt : ∀ a : Nat, r = some a → Ex G Γ μ tgt lv rest S n k) (kf : r = none → Ex G Γ μ nx lv rest S n k) : Ex G Γ μ pc lv (va_rf r :: rest) S n k := by
  obtain ⟨p, l, e, R, s, m, args, below, meth, c, A, Q⟩ := Γ
  intro ok H locs ls cells slots h1 h2 hl hP hD hS
  obtain ⟨hd, rfl, ht⟩ := hd
  cases r with
  | none => exact lv_ifnonnullN ok.1 ok.2.1 hd (kf rfl ok H locs ls cells slots h1 h2 hl hP hD hS)
  | some a => exact lv_ifnonnull ok.1 ok.2.1 hd ht (kt a rfl ok H locs ls cells slots h1 h2 hl hP hD hS)
theorem ex_acmp_eq {rx ry : Option Nat} (hd : dj μ pc (.if_acmp .eq off) off nx tgt) (kt : rx = ry → Ex G Γ μ tgt lv rest S n k) (kf : ¬ rx = ry → Ex G Γ μ nx lv rest S n k) : Ex G Γ μ pc lv (va_rf ry :: va_rf rx :: rest) S n k := by
  obtain ⟨p, l, e, R, s, m, args, below, meth, c, A, Q⟩ := Γ
  intro ok H locs ls cells slots h1 h2 hl hP hD hS
  obtain ⟨hd, rfl, ht⟩ := hd
  exact lv_acmp_eq ok.1 ok.2.1 hd ht (fun h => kt h ok H locs ls cells slots h1 h2 hl hP hD hS) (fun h => kf h ok H locs ls cells slots h1 h2 hl hP hD hS)
theorem ex_acmp_ne {rx ry : Option Nat} (hd : dj μ pc (.if_acmp .ne off) off nx tgt) (kt : ¬ rx = ry → Ex G Γ μ tgt lv rest S n k) (kf : rx = ry → Ex G Γ μ nx lv rest S n k) : Ex G Γ μ pc lv (va_rf ry :: va_rf rx :: rest) S n k := by
  obtain ⟨p, l, e, R, s, m, args, below, meth, c, A, Q⟩ := Γ
  intro ok H locs ls cells slots h1 h2 hl hP hD hS
  obtain ⟨hd, rfl, ht⟩ := hd
  exact lv_acmp_ne ok.1 ok.2.1 hd ht (fun h => kt h ok H locs ls cells slots h1 h2 hl hP hD hS) (fun h => kf h ok H locs ls cells slots h1 h2 hl hP hD hS)
theorem ex_tabIn {dflt lo hi : Int} {offs : Array Int} {len : Nat} {o : Int} (hd : decode μ.2.1 pc = .ok (.tableswitch dflt lo hi offs, len)) (h1' : ¬ x.toInt < lo) (h2' : ¬ hi < x.toInt) (ho : offs[(x.toInt - lo).toNat]? = some o) (ht : (pc : Int) + o = (tgt : Int)) (kk : Ex G Γ μ tgt lv rest S n k) : Ex G Γ μ pc lv (.int x :: rest) S n k := by
  obtain ⟨p, l, e, R, s, m, args, below, meth, c, A, Q⟩ := Γ
  intro ok H locs ls cells slots h1 h2 hl hP hD hS
  exact lv_tableIn ok.1 ok.2.1 hd h1' h2' ho ht (kk ok H locs ls cells slots h1 h2 hl hP hD hS)
theorem ex_tabOut {dflt lo hi : Int} {offs : Array Int} {len : Nat} (hd : decode μ.2.1 pc = .ok (.tableswitch dflt lo hi offs, len)) (h' : x.toInt < lo ∨ hi < x.toInt) (ht : (pc : Int) + dflt = (tgt : Int)) (kk : Ex G Γ μ tgt lv rest S n k) : Ex G Γ μ pc lv (.int x :: rest) S n k := by
  obtain ⟨p, l, e, R, s, m, args, below, meth, c, A, Q⟩ := Γ
  intro ok H locs ls cells slots h1 h2 hl hP hD hS
  exact lv_tableOut ok.1 ok.2.1 hd h' ht (kk ok H locs ls cells slots h1 h2 hl hP hD hS)
theorem ex_look {dflt : Int} {ps : Array (Int × Int)} {len : Nat} {o : Int} (hd : decode μ.2.1 pc = .ok (.lookupswitch dflt ps, len)) (hp : (ps.toList.zip (ps.toList.drop 1)).all (fun (a, next) => a.1 < next.1) = true) (ho : Op.lookupswitch.offset ps.toList dflt x.toInt = o) (ht : (pc : Int) + o = (tgt : Int)) (kk : Ex G Γ μ tgt lv rest S n k) : Ex G Γ μ pc lv (.int x :: rest) S n k := by
  obtain ⟨p, l, e, R, s, m, args, below, meth, c, A, Q⟩ := Γ
  intro ok H locs ls cells slots h1 h2 hl hP hD hS
  exact lv_lookup ok.1 ok.2.1 hd hp ho ht (kk ok H locs ls cells slots h1 h2 hl hP hD hS)
end EGR
