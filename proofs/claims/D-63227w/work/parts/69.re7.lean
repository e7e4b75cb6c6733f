/-! THE READER, 7: a whole file -/
def imgF (T : Nat → Int32) (j : Nat) : Nat → Int32 := fun i => if i < j then wdA T (32 + 4 * i) else 0
theorem imgF_s (T : Nat → Int32) (j : Nat) : upd (imgF T j) j (wdA T (32 + 4 * j)) = imgF T (j + 1) := funext fun i => by
  show (if i = j then wdA T (32 + 4 * j) else if i < j then wdA T (32 + 4 * i) else 0) = if i < j + 1 then wdA T (32 + 4 * i) else 0
  by_cases h : i = j
  · rw [if_pos h, h, if_pos (by omega)]
  · rw [if_neg h]
    by_cases h2 : i < j
    · rw [if_pos h2, if_pos (by omega)]
    · rw [if_neg h2, if_neg (by omega)]
theorem imgF_0 (T : Nat → Int32) : imgF T 0 = fun _ => 0 := funext fun i => if_neg (Nat.not_lt_zero i)
/-- a list of records in a segment that is read alone -/
def FLs (G : eg_G) (Q : va_W) (la n ci : Nat) (V : Nat → List Value) : Prop := ∃ (b cap : Nat) (x : Int32) (ae : Nat → Nat), (la, .inr (10, [.ref b, .int (nI n), .int x])) ∈ Q ∧ (0 < n → (b, .inl (eg_c G 7, cap, .inr (.inr (.inr (.inr (lsF ae n)))))) ∈ Q ∧ n ≤ cap ∧ cap < 2 ^ 31) ∧ ∀ i, i < n → (ae i, .inr (ci, V i)) ∈ Q
theorem FLs.of {G : eg_G} {Q : va_W} {la n ci b : Nat} {V : Nat → List Value} {x : Int32} {ae : Nat → Nat} {q : va_W} (hw : ALw G b n (lsF ae n) q) (hs : ∀ z, z ∈ ALo la b n x ++ (q ++ PLs ci V ae n) → z ∈ Q) : FLs G Q la n ci V := by
  rcases hw with ⟨-, -, h0⟩ | ⟨cap, rfl, hcp, hl⟩
  · exact ⟨b, 0, x, ae, hs _ (List.mem_append_left _ List.mem_cons_self), fun h => absurd h (by omega), fun i hi => absurd hi (by omega)⟩
  · exact ⟨b, cap, x, ae, hs _ (List.mem_append_left _ List.mem_cons_self), fun _ => ⟨hs _ (List.mem_append_right _ (List.mem_append_left _ List.mem_cons_self)), hl, by have := cpO_lt hcp; omega⟩, fun i hi => hs _ (List.mem_append_right _ (List.mem_append_right _ (PLs_in hi)))⟩
def FQ (G : eg_G) (Q : va_W) (la lb lc : Nat) (T : Nat → Int32) : Prop := FLs G Q la (fM T) 12 (imV T (fL T)) ∧ FLs G Q lb (fE T) 13 (exW T (fL T) (fM T)) ∧ FLs G Q lc (fP T) 14 (plW T (fL T) (fM T) (fE T))
theorem fil_t {T : Nat → Int32} {t : Nat} (h : filB T t = true) (ht : t ≤ 1200) : t = plA (fL T) (fM T) (fE T) (fP T) := by
  obtain ⟨h0, h1, h2, h3, -⟩ := filB_of h
  rw [szI_of h1] at h3
  obtain ⟨⟨-, -, a, -⟩, ⟨-, b⟩, ⟨-, c⟩, ⟨-, d⟩⟩ := h1B_of h1
  exact (nI_eq (by omega) (by unfold plA; omega)).mp h3
theorem gua_e {a b : Int32} {L : Nat} (hL : a = nI L) (hL2 : L ≤ 512) (hL4 : L % 4 = 0) : (decide (b = a) || isWd b a) = (decide (0 ≤ b) && decide (b ≤ a) && decide (b - b / 4 * 4 = 0)) := by
  subst hL
  have h4 : nI L - nI L / 4 * 4 = 0 := by
    have e := pk_rem (a := L) (d := 4) (by omega) (by decide) (by decide)
    rw [hL4] at e
    exact e
  have h0 : (0 : Int32) ≤ nI L := nI_pos' (by omega)
  unfold isWd
  by_cases z : b = nI L
  · subst z
    simp [h4, h0]
  · rw [decide_eq_false z, Bool.false_or]
    congr 1
    congr 1
    rw [decide_eq_decide]
    rw [Int32.lt_iff_le_and_ne]
    exact ⟨fun y => y.1, fun y => ⟨y, z⟩⟩
theorem fil_hd {T : Nat → Int32} {t : Nat} (h : filB T t = true) : 32 ≤ t ∧ wdA T 0 = 1297040469 ∧ (decide (4 ≤ wdA T 4) && decide (wdA T 4 ≤ 512)) = true ∧ wdA T 4 - wdA T 4 / 4 * 4 = 0 ∧ (decide (0 ≤ wdA T 8) && decide (wdA T 8 ≤ 8)) = true ∧ (decide (0 ≤ wdA T 12) && decide (wdA T 12 ≤ 8)) = true ∧ (decide (0 ≤ wdA T 16) && decide (wdA T 16 ≤ 24)) = true ∧ (decide (wdA T 20 = -1) || isWd (wdA T 20) (wdA T 4)) = true ∧ (decide (wdA T 24 = -1) || isWd (wdA T 24) (wdA T 4)) = true ∧ (decide (wdA T 28 = wdA T 4) || isWd (wdA T 28) (wdA T 4)) = true := by
  obtain ⟨h0, h1, h2, -⟩ := filB_of h
  unfold h0B at h0
  unfold h1B at h1
  unfold h2B at h2
  rw [Bool.and_eq_true, Bool.and_eq_true] at h2
  simp only [Bool.and_eq_true, decide_eq_true_eq] at h0 h1 ⊢
  obtain ⟨⟨⟨⟨⟨⟨⟨⟨a1, a2⟩, a3⟩, b1⟩, b2⟩, c1⟩, c2⟩, d1⟩, d2⟩ := h1
  exact ⟨h0.1, h0.2, ⟨a1, a2⟩, a3, ⟨b1, b2⟩, ⟨c1, c2⟩, ⟨d1, d2⟩, h2.1.1, h2.1.2, h2.2⟩
theorem h1_of {T : Nat → Int32} (a : (decide (4 ≤ wdA T 4) && decide (wdA T 4 ≤ 512)) = true) (a3 : wdA T 4 - wdA T 4 / 4 * 4 = 0) (b : (decide (0 ≤ wdA T 8) && decide (wdA T 8 ≤ 8)) = true) (c : (decide (0 ≤ wdA T 12) && decide (wdA T 12 ≤ 8)) = true) (d : (decide (0 ≤ wdA T 16) && decide (wdA T 16 ≤ 24)) = true) : h1B T = true := by
  unfold h1B
  simp only [Bool.and_eq_true, decide_eq_true_eq] at a b c d ⊢
  exact ⟨⟨⟨⟨⟨⟨⟨⟨a.1, a.2⟩, a3⟩, b.1⟩, b.2⟩, c.1⟩, c.2⟩, d.1⟩, d.2⟩
theorem rd_L {T : Nat → Int32} (a : (decide (4 ≤ wdA T 4) && decide (wdA T 4 ≤ 512)) = true) (a3 : wdA T 4 - wdA T 4 / 4 * 4 = 0) : wdA T 4 = nI (fL T) ∧ 4 ≤ fL T ∧ fL T ≤ 512 ∧ fL T % 4 = 0 := by
  simp only [Bool.and_eq_true, decide_eq_true_eq] at a
  obtain ⟨a1, a2⟩ := a
  obtain ⟨a, ha, ea⟩ := nI_of2 (x := wdA T 4) (M := 512) (n := 512) rfl (by intro z; exact absurd (Int32.le_of_lt (Int32.lt_of_le_of_lt a1 z)) (by decide)) a2
  have za : fL T = a := by rw [fL, ea, nI_clamp (by omega)]
  rw [za]
  refine ⟨ea, ?_, ha, ?_⟩
  · rw [ea] at a1
    exact (nI_leI (a := 4) (by decide) (by omega)).mp a1
  · rw [ea] at a3
    have e := pk_rem (a := a) (d := 4) (by omega) (by decide) (by decide)
    rw [show (nI 4 : Int32) = 4 from rfl, a3] at e
    exact ((nI_eq (a := 0) (b := a % 4) (by decide) (by omega)).mp e).symm
theorem lt_m1 {x y : Int32} {m : Nat} (h : y = nI m) (hm : m ≤ 8) : decide (x < y) = decide (x ≤ y - 1) := by
  rw [decide_eq_decide, Int32.lt_iff_toInt_lt, Int32.le_iff_toInt_le]
  have e : (y - 1).toInt = y.toInt - 1 := by
    rw [h, show (1 : Int32) = nI 1 from rfl, pk_sub_toInt (by omega) (by omega), nI_toInt (by omega)]
    rfl
  rw [e]
  omega
theorem fil_im {T : Nat → Int32} {t k : Nat} (h : filB T t = true) (hk : k < fM T) : nmB (wdA T (imA (fL T) k)) = true := rall_iff.mp (filB_of h).2.2.2.2.1 k hk
theorem fil_ex {T : Nat → Int32} {t k N : Nat} (h : filB T t = true) (ht : t ≤ 1200) (hk : k < fE T) (hN : wdA T 4 = nI (4 * N)) : exC T t (fL T) (fM T) N k := by
  have z := rall_iff.mp (filB_of h).2.2.2.2.2.1 k hk
  have zt := fil_t h ht
  unfold exP at z
  rw [Bool.and_eq_true, Bool.and_eq_true] at z
  refine ⟨?_, z.1.1, z.2, by rw [← hN]; exact z.1.2⟩
  rw [zt]
  unfold exA plA
  omega
theorem exP_of {T : Nat → Int32} {t k N : Nat} (h : exC T t (fL T) (fM T) N k) (hN : wdA T 4 = nI (4 * N)) : exP T k = true := by
  unfold exP
  rw [Bool.and_eq_true, Bool.and_eq_true]
  exact ⟨⟨h.2.1, by rw [hN]; exact h.2.2.2⟩, h.2.2.1⟩
theorem fil_pl {T : Nat → Int32} {t k : Nat} (h : filB T t = true) (hk : k < fP T) : (decide (0 ≤ wdA T (plA (fL T) (fM T) (fE T) k)) && decide (wdA T (plA (fL T) (fM T) (fE T) k) ≤ 5)) = true ∧ isWd (wdA T (plA (fL T) (fM T) (fE T) k + 4)) (wdA T 4) = true ∧ (decide (-1 ≤ wdA T (plA (fL T) (fM T) (fE T) k + 8)) && decide (wdA T (plA (fL T) (fM T) (fE T) k + 8) ≤ wdA T 8 - 1)) = true := by
  have z := rall_iff.mp (filB_of h).2.2.2.2.2.2 k hk
  obtain ⟨-, ⟨eM, hM⟩, -⟩ := h1B_of (filB_of h).2.1
  unfold plP at z
  rw [Bool.and_eq_true, Bool.and_eq_true, Bool.and_eq_true] at z
  refine ⟨z.1.1.1, z.1.1.2, ?_⟩
  rw [Bool.and_eq_true]
  refine ⟨z.1.2, ?_⟩
  rw [← lt_m1 eM hM]
  exact z.2
theorem plP_of {T : Nat → Int32} {k : Nat} (hM : wdA T 8 = nI (fM T)) (hM2 : fM T ≤ 8) (h1 : (decide (0 ≤ wdA T (plA (fL T) (fM T) (fE T) k)) && decide (wdA T (plA (fL T) (fM T) (fE T) k) ≤ 5)) = true) (h2 : isWd (wdA T (plA (fL T) (fM T) (fE T) k + 4)) (wdA T 4) = true) (h3 : (decide (-1 ≤ wdA T (plA (fL T) (fM T) (fE T) k + 8)) && decide (wdA T (plA (fL T) (fM T) (fE T) k + 8) ≤ wdA T 8 - 1)) = true) : plP T k = true := by
  unfold plP
  rw [Bool.and_eq_true] at h3
  rw [Bool.and_eq_true, Bool.and_eq_true, Bool.and_eq_true, lt_m1 hM hM2]
  exact ⟨⟨⟨h1, h2⟩, h3.1⟩, h3.2⟩
