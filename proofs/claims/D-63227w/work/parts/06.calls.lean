/-! worlds under permutation; making cells; returning; calling; throwing -/
section EGP
theorem eg_P_iff {D : va_G} {ws : va_W} {H : Heap} : va_P D classes ws H ↔ ∀ q ∈ ws, va_at D classes q H := by
  constructor
  · intro h q hq
    obtain ⟨j, hj⟩ := List.getElem?_of_mem hq
    exact h j q hj
  · intro h j q hj
    exact h q (List.mem_of_getElem? hj)
theorem eg_D_iff {A : Nat → Prop} {ws : va_W} : va_D A ws ↔ (ws.map Prod.fst).Nodup ∧ ∀ q ∈ ws, A q.1 := by
  constructor
  · intro h
    refine ⟨?_, fun q hq => ?_⟩
    · rw [List.Nodup, List.pairwise_iff_getElem]
      intro i j hi hj hij he
      rw [List.length_map] at hi hj
      rw [List.getElem_map, List.getElem_map] at he
      have := h.1 i j _ _ (List.getElem?_eq_getElem hi) (List.getElem?_eq_getElem hj) he
      omega
    · obtain ⟨j, hj⟩ := List.getElem?_of_mem hq
      exact h.2 j q hj
  · intro h
    refine ⟨fun i j p q hp hq he => ?_, fun k q hk => h.2 q (List.mem_of_getElem? hk)⟩
    have h1 := h.1
    rw [List.Nodup, List.pairwise_iff_getElem] at h1
    obtain ⟨li, ei⟩ := List.getElem?_eq_some_iff.mp hp
    obtain ⟨lj, ej⟩ := List.getElem?_eq_some_iff.mp hq
    rcases Nat.lt_trichotomy i j with z | z | z
    · refine absurd ?_ (h1 i j (by rw [List.length_map]; exact li) (by rw [List.length_map]; exact lj) z)
      rw [List.getElem_map, List.getElem_map, ei, ej]; exact he
    · exact z
    · refine absurd ?_ (h1 j i (by rw [List.length_map]; exact lj) (by rw [List.length_map]; exact li) z)
      rw [List.getElem_map, List.getElem_map, ei, ej]; exact he.symm
/-- a part of a world, in any order -/
def eg_sub (w' w : va_W) : Prop := ∃ r : va_W, (w' ++ r).Perm w
theorem eg_sub.P {D : va_G} {w' w : va_W} {H : Heap} (h : eg_sub w' w) (hP : va_P D classes w H) : va_P D classes w' H := by
  obtain ⟨r, hr⟩ := h
  rw [eg_P_iff] at hP ⊢
  exact fun q hq => hP q (hr.mem_iff.mp (List.mem_append_left _ hq))
theorem eg_sub.D {A : Nat → Prop} {w' w : va_W} (h : eg_sub w' w) (hD : va_D A w) : va_D A w' := by
  obtain ⟨r, hr⟩ := h
  rw [eg_D_iff] at hD ⊢
  refine ⟨?_, fun q hq => hD.2 q (hr.mem_iff.mp (List.mem_append_left _ hq))⟩
  have h1 := (hr.map Prod.fst).nodup_iff.mpr hD.1
  rw [List.map_append] at h1
  exact (List.nodup_append.mp h1).1
theorem eg_sub.of {w' w : va_W} (h : w' = w) : eg_sub w' w := ⟨[], by rw [List.append_nil, h]⟩
theorem eg_sub.perm {w' w : va_W} (h : w'.Perm w) : eg_sub w' w := ⟨[], by rw [List.append_nil]; exact h⟩
theorem eg_sub.trans {a b c : va_W} (h1 : eg_sub a b) (h2 : eg_sub b c) : eg_sub a c := by
  obtain ⟨r, hr⟩ := h1
  obtain ⟨r2, hr2⟩ := h2
  refine ⟨r ++ r2, ?_⟩
  rw [← List.append_assoc]
  exact (hr.append_right r2).trans hr2
/-- the segments at the places ks; the world with those places empty; with others laid there, and the rest of them behind -/
def eg_pk (S : eg_S) (ks : List Nat) : eg_S := ks.map (fun i => (S[i]?).getD [])
def eg_cl (S : eg_S) : List Nat → eg_S
  | [] => S
  | k :: ks => eg_cl (S.set k []) ks
def eg_bk (S : eg_S) : List Nat → eg_S → eg_S
  | [], X => S ++ X
  | k :: ks, [] => eg_bk (S.set k []) ks []
  | k :: ks, x :: X => eg_bk (S.set k x) ks X
theorem eg_set_perm : ∀ (S : eg_S) (k : Nat) (x : va_W), k < S.length → ((S.set k x).flatten).Perm (x ++ (S.set k []).flatten)
  | [], k, x, h => absurd h (Nat.not_lt_zero _)
  | y :: S, 0, x, _ => by simp
  | y :: S, k + 1, x, h => by
    have ih := eg_set_perm S k x (by simpa using h)
    rw [List.set_cons_succ, List.set_cons_succ, List.flatten_cons, List.flatten_cons]
    exact (ih.append_left y).trans (by
      rw [← List.append_assoc, ← List.append_assoc]
      exact List.perm_append_comm.append_right _)
theorem eg_set_self : ∀ (S : eg_S) (k : Nat), k < S.length → S.set k ((S[k]?).getD []) = S
  | [], k, h => absurd h (Nat.not_lt_zero _)
  | y :: S, 0, _ => by simp
  | y :: S, k + 1, h => by
    have ih := eg_set_self S k (by simpa using h)
    rw [List.set_cons_succ, List.getElem?_cons_succ, ih]
def eg_ks (n : Nat) : List Nat → Bool
  | [] => true
  | k :: ks => decide (k < n) && !(ks.contains k) && eg_ks n ks
theorem eg_pk_set : ∀ (ks : List Nat) (S : eg_S) (k : Nat) (x : va_W), ks.contains k = false → eg_pk (S.set k x) ks = eg_pk S ks
  | [], S, k, x, _ => rfl
  | j :: ks, S, k, x, h => by
    rw [List.contains_cons, Bool.or_eq_false_iff] at h
    have hj : k ≠ j := fun z => by rw [z] at h; simp at h
    have ih := eg_pk_set ks S k x h.2
    show ((S.set k x)[j]?).getD [] :: eg_pk (S.set k x) ks = (S[j]?).getD [] :: eg_pk S ks
    rw [ih, List.getElem?_set_ne hj]
theorem eg_cl_len : ∀ (ks : List Nat) (S : eg_S), (eg_cl S ks).length = S.length
  | [], S => rfl
  | k :: ks, S => by
    show (eg_cl (S.set k []) ks).length = S.length
    rw [eg_cl_len ks, List.length_set]
theorem eg_split : ∀ (ks : List Nat) (S : eg_S), eg_ks S.length ks = true → (S.flatten).Perm ((eg_pk S ks).flatten ++ (eg_cl S ks).flatten)
  | [], S, _ => by simp [eg_pk, eg_cl]
  | k :: ks, S, h => by
    simp only [eg_ks, Bool.and_eq_true, decide_eq_true_eq, Bool.not_eq_true'] at h
    obtain ⟨⟨h1, h2⟩, h3⟩ := h
    have ih := eg_split ks (S.set k []) (by rw [List.length_set]; exact h3)
    rw [eg_pk_set ks S k [] h2] at ih
    show (S.flatten).Perm (((S[k]?).getD [] :: eg_pk S ks).flatten ++ (eg_cl (S.set k []) ks).flatten)
    rw [List.flatten_cons, List.append_assoc]
    refine List.Perm.trans ?_ (ih.append_left _)
    have e := eg_set_perm S k ((S[k]?).getD []) h1
    rw [eg_set_self S k h1] at e
    exact e
theorem eg_cl_swap : ∀ (ks : List Nat) (S : eg_S) (k : Nat) (x : va_W), ks.contains k = false → eg_cl (S.set k x) ks = (eg_cl S ks).set k x
  | [], S, k, x, _ => rfl
  | j :: ks, S, k, x, h => by
    rw [List.contains_cons, Bool.or_eq_false_iff] at h
    have hj : k ≠ j := fun z => by rw [z] at h; simp at h
    show eg_cl ((S.set k x).set j []) ks = (eg_cl (S.set j []) ks).set k x
    rw [List.set_comm _ _ hj]
    exact eg_cl_swap ks (S.set j []) k x h.2
theorem eg_cl_set (ks : List Nat) (S : eg_S) (k : Nat) (x : va_W) (h : k < S.length) (hn : ks.contains k = false) : ((eg_cl (S.set k x) ks).flatten).Perm (x ++ (eg_cl (S.set k []) ks).flatten) := by
  rw [eg_cl_swap ks S k x hn, eg_cl_swap ks S k [] hn]
  exact eg_set_perm _ _ _ (by rw [eg_cl_len]; exact h)
theorem eg_back : ∀ (ks : List Nat) (S X : eg_S), eg_ks S.length ks = true → ((eg_bk S ks X).flatten).Perm (X.flatten ++ (eg_cl S ks).flatten)
  | [], S, X, _ => by
    show ((S ++ X).flatten).Perm (X.flatten ++ S.flatten)
    rw [List.flatten_append]
    exact List.perm_append_comm
  | k :: ks, S, [], h => by
    simp only [eg_ks, Bool.and_eq_true, decide_eq_true_eq, Bool.not_eq_true'] at h
    exact eg_back ks (S.set k []) [] (by rw [List.length_set]; exact h.2)
  | k :: ks, S, x :: X, h => by
    simp only [eg_ks, Bool.and_eq_true, decide_eq_true_eq, Bool.not_eq_true'] at h
    have ih := eg_back ks (S.set k x) X (by rw [List.length_set]; exact h.2)
    show ((eg_bk (S.set k x) ks X).flatten).Perm ((x :: X).flatten ++ (eg_cl (S.set k []) ks).flatten)
    refine ih.trans ?_
    rw [List.flatten_cons]
    refine ((eg_cl_set ks S k x h.1.1 h.1.2).append_left X.flatten).trans ?_
    rw [← List.append_assoc]
    exact List.perm_append_comm.append_right _
/-- behind a call: the callee's world, and the rest as it was -/
theorem eg_join {A : Nat → Prop} {D : va_G} {w w1 wr w1' : va_W} {H H1 : Heap} (hp : w.Perm (w1 ++ wr)) (hP : va_P D classes w H) (hD : va_D A w) (hk : ∀ q : Nat, q < H.size → ¬ va_A w1 H.size q → H1[q]? = H[q]?) (hF : ∀ q, va_A w1 H.size q → A q) (hP1 : va_P D classes w1' H1) (hD1 : va_D (va_A w1 H.size) w1') : va_P D classes (w1' ++ wr) H1 ∧ va_D A (w1' ++ wr) := by
  rw [eg_P_iff] at hP hP1
  rw [eg_D_iff] at hD hD1
  have hnd := (hp.map Prod.fst).nodup_iff.mp hD.1
  rw [List.map_append, List.nodup_append] at hnd
  have apart : ∀ q ∈ wr, q.1 < H.size ∧ ¬ va_A w1 H.size q.1 := by
    intro q hq
    have hl := (hP q (hp.mem_iff.mpr (List.mem_append_right _ hq))).lt
    refine ⟨hl, fun h => ?_⟩
    rcases h with ⟨k2, e, h⟩ | h
    · exact hnd.2.2 q.1 (List.mem_map.mpr ⟨_, List.mem_of_getElem? h, rfl⟩) q.1 (List.mem_map.mpr ⟨q, hq, rfl⟩) rfl
    · omega
  refine ⟨eg_P_iff.mpr fun q hq => ?_, eg_D_iff.mpr ⟨?_, fun q hq => ?_⟩⟩
  · rcases List.mem_append.mp hq with h | h
    · exact hP1 q h
    · exact (hP q (hp.mem_iff.mpr (List.mem_append_right _ h))).kept (hk q.1 (apart q h).1 (apart q h).2)
  · rw [List.map_append, List.nodup_append]
    refine ⟨hD1.1, hnd.2.1, fun a ha b hb => ?_⟩
    obtain ⟨q, hq, rfl⟩ := List.mem_map.mp ha
    obtain ⟨r, hr, rfl⟩ := List.mem_map.mp hb
    intro z
    exact (apart r hr).2 (z ▸ hD1.2 q hq)
  · rcases List.mem_append.mp hq with h | h
    · exact hF _ (hD1.2 q h)
    · exact hD.2 q (hp.mem_iff.mpr (List.mem_append_right _ h))
end EGP
section EGN
variable {l : Launch} {G : eg_G} {Γ : eg_C} {μ : eg_M} {pc nx tgt i n k d mc ms : Nat} {lv : List (Option Value)} {st rest : List Value} {S : eg_S} {x y : Int32} {off : Int}
/-- the world seen otherwise: other cuts, another order, fewer cells -/
theorem ex_re (S' : eg_S) (h : eg_sub S'.flatten S.flatten) (kk : Ex G Γ μ pc lv st S' n k) : Ex G Γ μ pc lv st S n k := by
  obtain ⟨p, l, e, R, s, m, args, below, meth, c, A, Q⟩ := Γ
  intro ok H locs ls cells slots h1 h2 hl hP hD hS
  exact kk ok H locs ls cells slots h1 h2 hl (h.P hP) (h.D hD) hS
theorem ex_wide {n' k' : Nat} (h : n ≤ n') (h' : k ≤ k') (kk : Ex G Γ μ pc lv st S n' k') : Ex G Γ μ pc lv st S n k := by
  obtain ⟨p, l, e, R, s, m, args, below, meth, c, A, Q⟩ := Γ
  intro ok H locs ls cells slots h1 h2 hl hP hD hS
  exact kk ok H locs ls cells slots (Nat.le_trans h1 h) (Nat.le_trans h2 h') hl hP hD hS
def nwx (own : String) (idx ci N : Nat) (fs : List Value) : Prop := ∃ (C : String) (T : u_T) (ty0 : Nat → FieldType), eg_cf ci C T N ty0 ∧ Cond.classLink own idx C ∈ eg_ws ∧ Cond.instantiable C N ∈ eg_ws ∧ Cond.initialized C ∈ eg_ws ∧ ∀ j, j < N → defaultValue (ty0 j) = vp_V fs j
theorem ex_new {ci idx N : Nat} {fs : List Value} (hR : eg_Rm l Γ d mc ms) (hf : nwx μ.1 idx ci N fs) (hd : dx μ pc (.new idx) 3 nx) (hn : n + 1 ≤ mc) (hk : k + N ≤ ms) (kk : ∀ q : Nat, Ex G Γ μ nx lv (.ref q :: rest) (S ++ [[(q, .inr (ci, fs))]]) (n + 1) (k + N)) : Ex G Γ μ pc lv rest S n k := by
  obtain ⟨p, l, e, R, s, m, args, below, meth, c, A, Q⟩ := Γ
  intro ok H locs ls cells slots h1 h2 hl hP hD hS
  obtain ⟨hd, rfl⟩ := hd
  obtain ⟨C, T, ty0, hc, w1, w2, w3, hdef⟩ := hf
  obtain ⟨-, -, r1, r2, -⟩ := hR
  have hA := ok.2.2.2.2.2.2.2.2.1
  have K := fun q H1 q1 q2 q3 => kk q ok H1 locs ls (cells + 1) (slots + N) (by omega) (by omega) hl q1 q2 q3
  obtain ⟨hx, hb, hown, hts, -, -, -, hK, -⟩ := ok
  exact va_new hx hb hts hc.2.1 ty0 hc.2.2.1 hown (hts _ w1) (hts _ w2) (hts _ w3) hK.1 hP hD hS hA hc.1 hdef (by omega) (by omega) hd (fun q H1 q1 q2 q3 => K q H1 (by rw [List.flatten_append]; exact q1) (by rw [List.flatten_append]; exact q2) q3)
theorem eg_cA {G : eg_G} {s : State} {cA : ClassId} {ty : FieldType} {t : Nat} (hK : va_K (eg_D G) classes (eg_tys G) s) (hK2 : va_K (eg_D G) classes (eg_tys G ++ [(cA, ty)]) s) (ht : (eg_tys G)[t]? = some (eg_c G t, ty)) : cA = eg_c G t := by
  have h1 := (hK.2 t _ ht).2
  have h2 := (hK2.2 (eg_tys G).length (cA, ty) (by simp)).2
  cases ty with
  | object C =>
    obtain ⟨-, -, -, -, -, e1⟩ := h1
    obtain ⟨-, -, -, -, -, e2⟩ := h2
    exact Option.some.inj (e2.symm.trans e1)
  | _ => exact Option.some.inj (h2.symm.trans h1)
theorem ex_newa {at' : ArrayType} {ty : FieldType} {N t : Nat} {a0 : vp_A} (hR : eg_Rm l Γ d mc ms) (hd : dx μ pc (.newarray at') 2 nx) (hty : newarray.typeOf at' = ty) (hw : Cond.arrayClass ty ∈ eg_ws) (ht : (eg_tys G)[t]? = some (eg_c G t, ty)) (ha : ∀ cA : ClassId, vp_cell cA a0 = arrV cA N (fun _ => defaultValue ty)) (hx0 : ¬ x < 0) (hN : x.toNatClampNeg = N) (hb0 : N * componentBytes ty ≤ 536870912) (hn : n + 1 ≤ mc) (hk : k + N ≤ ms) (kk : ∀ q : Nat, Ex G Γ μ nx lv (.ref q :: rest) (S ++ [[(q, .inl (eg_c G t, a0))]]) (n + 1) (k + N)) : Ex G Γ μ pc lv (.int x :: rest) S n k := by
  obtain ⟨p, l, e, R, s, m, args, below, meth, c, A, Q⟩ := Γ
  intro ok H locs ls cells slots h1 h2 hl hP hD hS
  obtain ⟨hd, rfl⟩ := hd
  obtain ⟨-, -, r1, r2, -⟩ := hR
  have hA := ok.2.2.2.2.2.2.2.2.1
  have K := fun q H1 q1 q2 q3 => kk q ok H1 locs ls (cells + 1) (slots + N) (by omega) (by omega) hl q1 q2 q3
  obtain ⟨hx, hb, hown, hts, -, -, -, hK, -⟩ := ok
  refine va_newa hx hb (by rw [hty]; exact hts _ hw) hty hK.1 hP hD hS hA ha hx0 hN hb0 (by omega) (by omega) hd (fun q cA H1 hK2 q1 q2 q3 => ?_)
  have e := eg_cA hK.1 hK2 ht
  subst e
  exact K q H1 (by rw [List.flatten_append]; exact q1) (by rw [List.flatten_append]; exact q2) q3
theorem ex_newq {C : String} {idx N t : Nat} (hR : eg_Rm l Γ d mc ms) (hd : dx μ pc (.anewarray idx) 3 nx) (hw : Cond.classLink μ.1 idx C ∈ eg_ws) (hw2 : Cond.arrayOver (.object C) ∈ eg_ws) (ht : (eg_tys G)[t]? = some (eg_c G t, .object C)) (hx0 : ¬ x < 0) (hN : x.toNatClampNeg = N) (hb0 : N * 4 ≤ 536870912) (hn : n + 1 ≤ mc) (hk : k + N ≤ ms) (kk : ∀ q : Nat, Ex G Γ μ nx lv (.ref q :: rest) (S ++ [[(q, .inl (eg_c G t, N, .inr (.inr (.inr (.inr (fun _ => none))))))]]) (n + 1) (k + N)) : Ex G Γ μ pc lv (.int x :: rest) S n k := by
  obtain ⟨p, l, e, R, s, m, args, below, meth, c, A, Q⟩ := Γ
  intro ok H locs ls cells slots h1 h2 hl hP hD hS
  obtain ⟨hd, rfl⟩ := hd
  obtain ⟨-, -, r1, r2, -⟩ := hR
  have hA := ok.2.2.2.2.2.2.2.2.1
  have K := fun q H1 q1 q2 q3 => kk q ok H1 locs ls (cells + 1) (slots + N) (by omega) (by omega) hl q1 q2 q3
  obtain ⟨hx, hb, hown, hts, -, -, -, hK, -⟩ := ok
  refine va_newq hx hb hown (hts _ hw) (va_AO.of (hts _ hw2)) hK.1 hP hD hS hA hx0 hN hb0 (by omega) (by omega) hd (fun q cA H1 hK2 q1 q2 q3 => ?_)
  have e := eg_cA hK.1 hK2 ht
  subst e
  exact K q H1 (by rw [List.flatten_append]; exact q1) (by rw [List.flatten_append]; exact q2) q3
/-- the static empty array of ArrayList -/
theorem ex_dce {idx : Nat} (hw : Cond.fieldLink μ.1 idx "java/util/ArrayList" eg_dce "[Ljava/lang/Object;" ∈ eg_ws) (hd : dx μ pc (.getstatic idx) 3 nx) (kk : Ex G Γ μ nx lv (.ref G.2.2.2.1 :: rest) S n k) : Ex G Γ μ pc lv rest S n k := by
  obtain ⟨p, l, e, R, s, m, args, below, meth, c, A, Q⟩ := Γ
  intro ok H locs ls cells slots h1 h2 hl hP hD hS
  obtain ⟨hd, rfl⟩ := hd
  have K := kk ok H locs ls cells slots h1 h2 hl hP hD hS
  obtain ⟨hx, hb, hown, hts, -, -, -, hK, -⟩ := ok
  exact va_gets hx hb hK.2.2.2.1 hS hown (hts _ hw) (fun _ z => z) hd K
/-- a cast of an object to its own class -/
theorem ex_cast (kS : Nat) {P : va_W} {a ci idx N : Nat} {C : String} {T : u_T} {fs : List Value} (hd : dx μ pc (.checkcast idx) 3 nx) (hw : Cond.classLink μ.1 idx C ∈ eg_ws) (hc : classes[ci]? = some (C, T, N)) (hk : S[kS]? = some P) (hm : (a, .inr (ci, fs)) ∈ P) (kk : Ex G Γ μ nx lv (.ref a :: rest) S n k) : Ex G Γ μ pc lv (.ref a :: rest) S n k := by
  obtain ⟨p, l, e, R, s, m, args, below, meth, c, A, Q⟩ := Γ
  intro ok H locs ls cells slots h1 h2 hl hP hD hS
  obtain ⟨hd, rfl⟩ := hd
  have K := kk ok H locs ls cells slots h1 h2 hl hP hD hS
  obtain ⟨hx, hb, hown, hts, -, -, -, hK, -⟩ := ok
  obtain ⟨z, hz⟩ := eg_mem hk hm
  exact va_castS hx hb hown (hts _ hw) (hK.1.1 ci _ hc).2 (va_recv hK.1 hP hc hz) hd K
/-- Object's constructor -/
theorem ex_oinit {a idx : Nat} (hR : eg_Rm l Γ (d + 1) mc ms) (hd : dx μ pc (.invokespecial idx) 3 nx) (hw : Cond.methodLink μ.1 idx Lib.objectInit ∈ eg_ws) (hw2 : Cond.instanceMethod Lib.objectInit ∈ eg_ws) (hw3 : Cond.code Lib.objectInit ⟨#[0xb1]⟩ 1 none ∈ eg_ws) (hst : (rest.map fun v => v.category).sum ≤ 8) (kk : Ex G Γ μ nx lv rest S n k) : Ex G Γ μ pc lv (.ref a :: rest) S n k := by
  obtain ⟨p, l, e, R, s, m, args, below, meth, c, A, Q⟩ := Γ
  intro ok H locs ls cells slots h1 h2 hl hP hD hS
  obtain ⟨hd, rfl⟩ := hd
  have K := kk ok H locs ls cells slots h1 h2 hl hP hD hS
  obtain ⟨hx, hb, hown, hts, -⟩ := ok
  obtain ⟨-, r1, -, -, r2⟩ := hR
  exact W.objInit hx hb hown (hts _ hw) (hts _ hw2) (hts _ hw3) rfl hl.1 rfl hd (by omega) (by show 2 * 0 + _ + 12 ≤ _; omega) K
theorem W.mono {p : Program} {l : Launch} {e : Env} {R : Room} {s : State} {m : MethodId} {args : Array Value} {below : List Frame} {meth : Method} {c : Code} {H : Heap} {locs : List Loc} {cells slots : Nat} {Q Q' : State → Prop} {g : JFrame} (h : ∀ t, Q t → Q' t) (kk : W p l e R s m args below meth c H locs cells slots Q g) : W p l e R s m args below meth c H locs cells slots Q' g := by
  intro T hT X
  obtain ⟨t, a, b⟩ := kk T hT X
  exact ⟨t, a, h t b⟩
def eg_rQ (A : Nat → Prop) (H : Heap) (v : Option Value) : Array Value → State → Outcome → State → Prop := fun _ _ o t => o = .returned v ∧ t.heap = H
theorem eg_rEnd {G : eg_G} {S S' : eg_S} {K : eg_O → eg_S → Prop} {mc ms : Nat} {below : List Frame} {args : Array Value} {s : State} {H : Heap} {locs : List Loc} {v : Option Value} (hP : va_P (eg_D G) classes S'.flatten H) (hD : va_D (va_A S.flatten s.heap.size) S'.flatten) (hS : va_S (va_A S.flatten s.heap.size) s.heap H locs) (hK : K (.inl v) S') : ∀ t, MQ below (eg_rQ (va_A S.flatten s.heap.size) H v) args s mc ms (va_A S.flatten s.heap.size) t → eg_MQ below G S K mc ms args s t := by
  rintro t ⟨o, h1, h2, ⟨rfl, ht⟩, L, ⟨-, hW, hsame⟩, hL⟩
  exact ⟨_, h1, h2, ⟨.inl v, S', rfl, hK, by rw [ht]; exact hP, hD⟩, hS.F ht, L, ⟨hW, hsame⟩, hL⟩
variable {S0 : eg_S} {K : eg_O → eg_S → Prop}
theorem ex_vret (S' : eg_S) (hG : eg_Is l Γ G S0 K d mc ms) (hd : dx μ pc .return_ 1 nx) (hr : μ.2.2.1 = none) (hn : n ≤ mc) (hk : k ≤ ms) (hsub : eg_sub S'.flatten S.flatten) (hK : K (.inl none) S') : Ex G Γ μ pc lv [] S n k := by
  obtain ⟨p, l, e, R, s, m, args, below, meth, c, A, Q⟩ := Γ
  intro ok H locs ls cells slots h1 h2 hl hP hD hS
  obtain ⟨-, -, rfl, rfl⟩ := hG
  have hlocks := ok.2.2.2.2.2.1
  refine W.mono (eg_rEnd (S' := S') (hsub.P hP) (hsub.D hD) hS hK) (W.widen (Nat.le_trans h1 hn) (Nat.le_trans h2 hk) ?_)
  exact W.vret ok.1 ok.2.1 (ok.2.2.2.2.1.trans hr) (fun t ht _ => ⟨rfl, ht⟩) hS.2.2 hd.1
theorem ex_iret (S' : eg_S) {ty : FieldType} (hG : eg_Is l Γ G S0 K d mc ms) (hd : dx μ pc .ireturn 1 nx) (hr : μ.2.2.1 = some ty) (hnar : narrow ty (.int x) = .int x) (hn : n ≤ mc) (hk : k ≤ ms) (hsub : eg_sub S'.flatten S.flatten) (hK : K (.inl (some (.int x))) S') : Ex G Γ μ pc lv [.int x] S n k := by
  obtain ⟨p, l, e, R, s, m, args, below, meth, c, A, Q⟩ := Γ
  intro ok H locs ls cells slots h1 h2 hl hP hD hS
  obtain ⟨-, -, rfl, rfl⟩ := hG
  have hlocks := ok.2.2.2.2.2.1
  refine W.mono (eg_rEnd (S' := S') (hsub.P hP) (hsub.D hD) hS hK) (W.widen (Nat.le_trans h1 hn) (Nat.le_trans h2 hk) ?_)
  exact W.zret ok.1 ok.2.1 (ok.2.2.2.2.1.trans hr) hnar (fun t ht _ => ⟨rfl, ht⟩) hS.2.2 hd.1
theorem ex_aret (S' : eg_S) {r : Option Nat} {ty : FieldType} (hG : eg_Is l Γ G S0 K d mc ms) (hd : dx μ pc .areturn 1 nx) (hr : μ.2.2.1 = some ty) (hty : (∃ n, ty = .object n) ∨ ∃ t, ty = .array t) (hn : n ≤ mc) (hk : k ≤ ms) (hsub : eg_sub S'.flatten S.flatten) (hK : K (.inl (some (va_rf r))) S') : Ex G Γ μ pc lv [va_rf r] S n k := by
  obtain ⟨p, l, e, R, s, m, args, below, meth, c, A, Q⟩ := Γ
  intro ok H locs ls cells slots h1 h2 hl hP hD hS
  obtain ⟨-, -, rfl, rfl⟩ := hG
  have hlocks := ok.2.2.2.2.2.1
  refine W.mono (eg_rEnd (S' := S') (hsub.P hP) (hsub.D hD) hS hK) (W.widen (Nat.le_trans h1 hn) (Nat.le_trans h2 hk) ?_)
  exact W.aret ok.1 ok.2.1 (ok.2.2.2.2.1.trans hr) hty (va_rf_or r) (fun t ht _ => ⟨rfl, ht⟩) hS.2.2 hd.1
end EGN
