/-! THE LOADER, 15: calls -/
def oK (G : eg_G) (x : Nat) (kd : Int32) (v : Option Value) (f : Nat → Int32) (g : Nat → Nat → Int32) : eg_O → eg_S → Prop := fun o S2 => CR G x f g S2 ∧ ((kd = 0 ∧ o = .inl v) ∨ (kd = 1 ∧ o = .inr x_IAE) ∨ (kd = 2 ∧ o = .inr x_ISE))
theorem fEq_run (f : Nat → Int32) (m : mR) (c : Int32) : fEq (rnF (frF f) m) (va_up (runX (frF (va_up f 0 0)) m) 0 c) := by
  unfold rnF runX runF runf
  by_cases h : m.1 = 0
  · rw [if_pos h, if_pos h, if_pos h]
    refine ⟨rfl, rfl, rfl, ?_, rfl, rfl, rfl, rfl⟩
    show (0 : Int32) = m.1
    exact h.symm
  · rw [if_neg h, if_neg h, if_neg h]
    exact ⟨rfl, rfl, rfl, rfl, rfl, rfl, rfl, rfl⟩
theorem rgS_0 (R : Nat → Int32) (u v : Int32) : rgS R u v 0 = 0 := rfl
section OP1
variable {G : eg_G} {f : Nat → Int32} {g : Nat → Nat → Int32} {n t : Nat} {sa A : Nat → Nat} {k : Nat} {mx : Nat → Nat} {Fr : Nat → Option Nat} {PP : va_W} {T : Nat → Int32} {x : Nat} {r a : Nat → Nat} {pc tr md : Int32} {pl gn : Nat} {marks : Int32} {F : Nat → Option Nat} {b : Nat} {y : Int32} {q : va_W}
theorem cr_mk (h : RI G f g n t sa A k mx Fr PP T) (hr0 : r 0 = a 0) (hT : TB F gn (SL g sa A n)) (hw : ALw G b k (lsF (fun i => A (mx i)) k) q) {f' F0 : Nat → Int32} {g' : Nat → Nat → Int32} {M' R' : Nat → Int32} {P' : Int32 → Bool} {t' : Nat} {T' : Nat → Int32} (hLO : LO x r F0 = LO x r f') (e2 : f' 2 = f 2) (e3 : f' 3 = f 3) (e15 : f' 15 = nI t') (ht2 : t' ≤ 1200) (hTb : ∀ i, T' i &&& 255 = T' i) (hTT : ∀ i, i < t' → T' i = g' 16 i) (h1 : g' 1 = M') (h22 : g' 22 = R') (e : ∀ c, 4 ≤ c → c ≤ 14 → g' c = g c) (hM : ∀ i, M' i &&& 255 = M' i) (hP : P' = gdB f g) : CR G x f' g' [LO x r F0, MA G a M' P' R' pc tr md, SO (r 1) pl gn (nI n) marks, SPl G pl F, SG gn, PP, ALo (r 2) b k y, q, RW G (r 3) Fr, TP G (r 4) T'] := by
  refine ⟨r, a, pc, tr, md, pl, gn, n, t', marks, F, sa, A, PP, b, k, y, q, mx, Fr, T', ?_, hr0, ri_g h e3 e15 ht2 (by rw [e2]; exact h.hse) (by rw [h1]; exact hM) hTb hTT e, by rw [SL_g e]; exact hT, hw⟩
  unfold CW
  rw [hLO, h1, h22, hP, gd_g e e2]
theorem cr_leave (h : RI G f g n t sa A k mx Fr PP T) (hr0 : r 0 = a 0) {m u s w i0 : Nat} (hm : lv g m) (h10 : g 10 m = nI (512 + 16 * u)) (h11 : g 11 m = nI s) (h12 : g 12 m = nI w) (hws : w ≤ s) (hu : u + (s + 15) / 16 ≤ 208) (hi0 : i0 < k) (him : mx i0 = m) (hnn : ∀ j, lv g j → j ≠ m → g 14 (12 * j + m) = 0) {f' F0 : Nat → Int32} {M' R' : Nat → Int32} {P' : Int32 → Bool} (hLO : LO x r F0 = LO x r f') (e2 : f' 2 = f 2) (e3 : f' 3 = nI (remN g n m)) (e15 : f' 15 = f 15) (h1 : g 1 = M') (h22 : g 22 = R') (hP : P' = gdB f g) (hT : TB F gn ((SL g sa A n).filter (nOf (A m)))) (hw : ALw G b (k - 1) (lsF (delN (fun i => A (mx i)) i0) (k - 1)) q) : CR G x f' (remG g n m) [LO x r F0, MA G a M' (gdU P' (512 + 16 * u) false w) R' pc tr md, SO (r 1) pl gn (nI ((SL g sa A n).filter (nOf (A m))).length) marks, SPl G pl F, SG gn, PP, ALo (r 2) b (k - 1) y, q, RW G (r 3) (owF Fr u none ((s + 15) / 16)), TP G (r 4) T] := by
  refine ⟨r, a, pc, tr, md, pl, gn, remN g n m, t, marks, F, _, A, PP, b, k - 1, y, q, delN mx i0, _, T, ?_, hr0, ri_leave h hm h10 h11 hu hi0 him hnn e3 e2 e15, by rw [SL_leave h hm]; exact hT, ?_⟩
  · unfold CW
    rw [hLO, remG_o (c := 1) (by unfold c47; omega) (by decide) (by decide), remG_o (c := 22) (by unfold c47; omega) (by decide) (by decide), h1, h22, hP, gd_leave h hm h10 h11 h12 hws hu e2 remG_8 (remG_o (by unfold c47; omega) (by decide) (by decide)) (remG_o (by unfold c47; omega) (by decide) (by decide)), ← SL_leave h hm, SL_len]
  · have e : delN (fun i => A (mx i)) i0 = fun i => A (delN mx i0 i) := by
      funext i
      unfold delN
      split <;> rfl
    rw [← e]
    exact hw
theorem ndB_cnt (h : RI G f g n t sa A k mx Fr PP T) {m : Nat} (hm : lv g m) : ndB g m = decide (0 < rcnt (nxP g 3 m) 12) := by
  unfold ndB
  have e : ∀ j, j < 12 → ndP g m j = nxP g 3 m j := fun j hj => by
    unfold ndP nxP
    rw [if_pos rfl]
    by_cases z : g 14 (12 * j + m) = 0
    · rw [decide_eq_false (p := ¬ g 14 (12 * j + m) = 0) (fun w => w z), Bool.and_false, Bool.and_false]
    · have := (h.need j m hj hm.1 z).2.2
      rw [decide_eq_true (p := ¬ j = m) (fun w => this w.symm), Bool.and_true]
  cases hb : rany (ndP g m) 12 with
  | true =>
    obtain ⟨j, hj, e1⟩ := rany_iff.mp hb
    rw [e j hj] at e1
    symm
    refine decide_eq_true ?_
    rw [rcnt_len]
    exact List.length_pos_of_mem (List.mem_filter.mpr ⟨List.mem_range.mpr hj, e1⟩)
  | false =>
    symm
    refine decide_eq_false (fun z => ?_)
    rw [rcnt_len] at z
    obtain ⟨j, hj⟩ := List.exists_mem_of_length_pos z
    obtain ⟨h1, h2⟩ := List.mem_filter.mp hj
    rw [show rany (ndP g m) 12 = true from rany_iff.mpr ⟨j, List.mem_range.mp h1, by rw [e j (List.mem_range.mp h1)]; exact h2⟩] at hb
    cases hb
theorem ndB_no {m : Nat} (hm : m < 12) (hb : ndB g m = false) : ∀ j, lv g j → j ≠ m → g 14 (12 * j + m) = 0 := fun j hj hne => by
  by_cases z : g 14 (12 * j + m) = 0
  · exact z
  · have : ndB g m = true := rany_iff.mpr ⟨j, hj.1, by
      unfold ndP
      rw [decide_eq_true hj.2, decide_eq_true (p := ¬ j = m) hne, decide_eq_true z]
      rfl⟩
    rw [this] at hb
    cases hb
end OP1
