/-! THE TABLE OF SYMBOLS, pure -/
abbrev sE : Type := Nat × Int32 × Int32 × Int32 × Option Nat
def fsI (x : Int32) : Int32 := ((x * (-1640531527)).toUInt32 >>> ((26 : Int32).toUInt32 &&& Int32.toUInt32 31)).toInt32
def fsN (x : Int32) : Nat := (fsI x).toNatClampNeg
theorem fsI_e (x : Int32) : fsN x < 64 ∧ fsI x = nI (fsN x) := by
  have h := pk_ushr (x * (-1640531527)) 26 26 (by decide)
  have hl : (x * (-1640531527)).toBitVec.toNat < 2 ^ 32 := BitVec.isLt _
  have hz : (fsI x).toBitVec.toNat < 64 := by
    show ((_ : Int32).toBitVec.toNat) < 64
    unfold fsI
    rw [h]; omega
  have e : fsI x = nI (fsI x).toBitVec.toNat := by
    apply Int32.toBitVec_inj.mp
    apply BitVec.eq_of_toNat_eq
    rw [pk_tn (by omega)]
  have e2 : fsN x = (fsI x).toBitVec.toNat := by
    unfold fsN
    rw [e, nI_clamp (by omega), ← e]
  exact ⟨by rw [e2]; exact hz, by rw [e2]; exact e⟩
def tbl (F : Nat → Option Nat) (gn n : Nat) : List Nat := (List.range n).filterMap (fun j => if F j = some gn then none else F j)
def TB (F : Nat → Option Nat) (gn : Nat) (L : List sE) : Prop := (gn :: L.map (fun e => e.1)).Nodup ∧ (tbl F gn 64).Perm (L.map (fun e => e.1)) ∧ ∀ e ∈ L, ∃ d, d < 64 ∧ F ((fsN e.2.1 + d) % 64) = some e.1 ∧ ∀ d', d' < d → F ((fsN e.2.1 + d') % 64) ≠ none
theorem tbl_in {F : Nat → Option Nat} {gn n j y : Nat} (hj : j < n) (h : F j = some y) (hy : y ≠ gn) : y ∈ tbl F gn n := by
  unfold tbl
  rw [List.mem_filterMap]
  exact ⟨j, List.mem_range.mpr hj, by rw [if_neg (by rw [h]; intro z; exact hy (Option.some.inj z)), h]⟩
theorem TB.mem {F : Nat → Option Nat} {gn j y : Nat} {L : List sE} (h : TB F gn L) (hj : j < 64) (hF : F j = some y) (hy : y ≠ gn) : ∃ e, e ∈ L ∧ e.1 = y := by
  have := h.2.1.mem_iff.mp (tbl_in hj hF hy)
  obtain ⟨e, he, h1⟩ := List.mem_map.mp this
  exact ⟨e, he, h1⟩
theorem nodup_inj {L : List sE} (h : (L.map (fun e => e.1)).Nodup) : ∀ {e e' : sE}, e ∈ L → e' ∈ L → e.1 = e'.1 → e = e' := by
  induction L with
  | nil => intro e e' he; cases he
  | cons a L ih =>
    intro e e' he he' hee
    rw [List.map_cons, List.nodup_cons] at h
    rcases List.mem_cons.mp he with rfl | he
    · rcases List.mem_cons.mp he' with rfl | he'
      · rfl
      · exact absurd (List.mem_map.mpr ⟨e', he', hee.symm⟩) h.1
    · rcases List.mem_cons.mp he' with h2 | he'
      · exact absurd (List.mem_map.mpr ⟨e, he, by rw [hee, h2]⟩) h.1
      · exact ih h.2 he he' hee
theorem TB.inj {F : Nat → Option Nat} {gn : Nat} {L : List sE} (h : TB F gn L) {e e' : sE} (he : e ∈ L) (he' : e' ∈ L) (hee : e.1 = e'.1) : e = e' := nodup_inj (List.nodup_cons.mp h.1).2 he he' hee
theorem TB.ngn {F : Nat → Option Nat} {gn : Nat} {L : List sE} (h : TB F gn L) {e : sE} (he : e ∈ L) : e.1 ≠ gn := fun z => (List.nodup_cons.mp h.1).1 (List.mem_map.mpr ⟨e, he, z⟩)
theorem tbl_len {F : Nat → Option Nat} {gn : Nat} : ∀ n, (∀ j, j < n → F j ≠ none ∧ F j ≠ some gn) → (tbl F gn n).length = n
  | 0, _ => rfl
  | n + 1, h => by
    have ih := tbl_len (F := F) (gn := gn) n (fun j hj => h j (by omega))
    unfold tbl at ih ⊢
    rw [List.range_succ, List.filterMap_append, List.length_append, ih]
    obtain ⟨h1, h2⟩ := h n (by omega)
    obtain ⟨y, hy⟩ := Option.ne_none_iff_exists'.mp h1
    simp only [List.filterMap_cons, List.filterMap_nil]
    rw [if_neg h2, hy]
    rfl
theorem TB.room {F : Nat → Option Nat} {gn : Nat} {L : List sE} (h : TB F gn L) (hL : L.length < 64) : ∃ j, j < 64 ∧ (F j = none ∨ F j = some gn) := by
  refine Classical.byContradiction fun z => ?_
  have := tbl_len (F := F) (gn := gn) 64 (fun j hj => ⟨fun y => z ⟨j, hj, Or.inl y⟩, fun y => z ⟨j, hj, Or.inr y⟩⟩)
  rw [h.2.1.length_eq, List.length_map] at this
  omega
/-- a place on the way from h, so many steps on -/
theorem TB.way {F : Nat → Option Nat} {gn : Nat} {L : List sE} (h : TB F gn L) (hL : L.length < 64) (h0 : Nat) (hh : h0 < 64) : ∃ d, d < 64 ∧ (F ((h0 + d) % 64) = none ∨ F ((h0 + d) % 64) = some gn) := by
  obtain ⟨j, hj, hF⟩ := h.room hL
  exact ⟨(j + 64 - h0) % 64, Nat.mod_lt _ (by decide), by rw [show (h0 + (j + 64 - h0) % 64) % 64 = j by omega]; exact hF⟩
theorem tbl_up {F : Nat → Option Nat} {gn j y : Nat} (hF : F j = none ∨ F j = some gn) (hy : y ≠ gn) : ∀ n, (tbl (va_up F j (some y)) gn n).Perm (if j < n then y :: tbl F gn n else tbl F gn n)
  | 0 => by rw [if_neg (Nat.not_lt_zero _)]; exact List.Perm.refl _
  | n + 1 => by
    have ih := tbl_up (F := F) hF hy n
    have e1 : ∀ G : Nat → Option Nat, tbl G gn (n + 1) = tbl G gn n ++ (if G n = some gn then none else G n).toList := by
      intro G
      unfold tbl
      rw [List.range_succ, List.filterMap_append]
      congr 1
    rw [e1, e1]
    by_cases hjn : j = n
    · subst hjn
      rw [if_neg (by omega)] at ih
      rw [if_pos (show j < j + 1 by omega), va_up_self, if_neg (show ¬ some y = some gn by intro z; exact hy (Option.some.inj z))]
      have e2 : (if F j = some gn then none else F j) = none := by
        rcases hF with z | z
        · rw [z]; rfl
        · rw [if_pos z]
      rw [e2]
      show (tbl (va_up F j (some y)) gn j ++ [y]).Perm (y :: (tbl F gn j ++ []))
      rw [List.append_nil]
      exact (List.perm_append_comm.trans (List.Perm.refl _)).trans (ih.cons y)
    · rw [va_up_ne _ _ (fun z => hjn z.symm)]
      by_cases hlt : j < n
      · rw [if_pos hlt] at ih
        rw [if_pos (show j < n + 1 by omega)]
        exact ih.append_right _
      · rw [if_neg hlt] at ih
        rw [if_neg (show ¬ j < n + 1 by omega)]
        exact ih.append_right _
theorem TB.add {F : Nat → Option Nat} {gn d : Nat} {L : List sE} (h : TB F gn L) (e : sE) (hd : d < 64) (hF : F ((fsN e.2.1 + d) % 64) = none ∨ F ((fsN e.2.1 + d) % 64) = some gn) (hn : ∀ d', d' < d → F ((fsN e.2.1 + d') % 64) ≠ none) (hg : e.1 ≠ gn) (hne : e.1 ∉ L.map (fun e => e.1)) : TB (va_up F ((fsN e.2.1 + d) % 64) (some e.1)) gn (L ++ [e]) := by
  have hj : (fsN e.2.1 + d) % 64 < 64 := Nat.mod_lt _ (by decide)
  refine ⟨?_, ?_, fun e' he' => ?_⟩
  · rw [List.map_append, ← List.cons_append, List.nodup_append]
    refine ⟨h.1, by simp, fun a ha b hb => ?_⟩
    simp only [List.map_cons, List.map_nil, List.mem_singleton] at hb
    rw [hb]
    rintro rfl
    rcases List.mem_cons.mp ha with z | z
    · exact hg z
    · exact hne z
  · have := tbl_up (F := F) (gn := gn) (y := e.1) hF hg 64
    rw [if_pos hj] at this
    refine this.trans ?_
    rw [List.map_append]
    exact (h.2.1.cons e.1).trans (List.perm_append_comm (l₁ := [e.1]))
  · rcases List.mem_append.mp he' with he' | he'
    · obtain ⟨d1, h1, h2, h3⟩ := h.2.2 e' he'
      have hne' : (fsN e'.2.1 + d1) % 64 ≠ (fsN e.2.1 + d) % 64 := by
        intro z
        rw [z] at h2
        rcases hF with y | y
        · rw [h2] at y; cases y
        · rw [h2] at y; exact h.ngn he' (Option.some.inj y)
      refine ⟨d1, h1, by rw [va_up_ne _ _ hne']; exact h2, fun d' hd' => ?_⟩
      by_cases y : (fsN e'.2.1 + d') % 64 = (fsN e.2.1 + d) % 64
      · rw [y, va_up_self]; simp
      · rw [va_up_ne _ _ y]; exact h3 d' hd'
    · rw [List.mem_singleton] at he'
      subst he'
      refine ⟨d, hd, va_up_self _ _ _, fun d' hd' => ?_⟩
      by_cases y : (fsN e'.2.1 + d') % 64 = (fsN e'.2.1 + d) % 64
      · rw [y, va_up_self]; simp
      · rw [va_up_ne _ _ y]; exact hn d' hd'
theorem TB.perm {F : Nat → Option Nat} {gn : Nat} {L L' : List sE} (h : TB F gn L) (p : L.Perm L') : TB F gn L' :=
  ⟨((p.map _).cons gn).nodup_iff.mp h.1, h.2.1.trans (p.map _), fun e he => h.2.2 e (p.mem_iff.mpr he)⟩
/-- who is found -/
def sfind (L : List sE) (x : Int32) : Option sE := L.find? (fun e => decide (e.2.1 = x))
theorem sfind_some {L : List sE} (hN : (L.map (fun e => e.2.1)).Nodup) {e : sE} (he : e ∈ L) : sfind L e.2.1 = some e := by
  unfold sfind
  induction L with
  | nil => cases he
  | cons a L ih =>
    rw [List.map_cons, List.nodup_cons] at hN
    rw [List.find?_cons]
    rcases List.mem_cons.mp he with rfl | he
    · rw [decide_eq_true rfl]
    · rw [decide_eq_false (fun z => hN.1 (List.mem_map.mpr ⟨e, he, z.symm⟩))]
      exact ih hN.2 he
theorem sfind_none {L : List sE} {x : Int32} (h : ∀ e ∈ L, e.2.1 ≠ x) : sfind L x = none := by
  unfold sfind
  rw [List.find?_eq_none]
  intro e he
  simpa using h e he
theorem TB.emp (gn : Nat) : TB (fun _ => none) gn [] := by
  refine ⟨by simp, ?_, fun e he => by cases he⟩
  have : ∀ n, tbl (fun _ => none) gn n = [] := by
    intro n
    unfold tbl
    rw [List.filterMap_eq_nil_iff]
    intro a _
    simp
  rw [this]
  exact List.Perm.refl _
