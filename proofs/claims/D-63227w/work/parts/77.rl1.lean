/-! THE RELATION, 1: what ties the loader to the twin's numbers -/
def lv (g : Nat → Nat → Int32) (j : Nat) : Prop := j < 12 ∧ ¬ g 8 j = 0
def cov (g : Nat → Nat → Int32) (j r : Nat) : Prop := (g 10 j - 512) / 16 ≤ nI r ∧ nI r < (g 10 j - 512) / 16 + (g 11 j + 15) / 16
def RI (G : eg_G) (f : Nat → Int32) (g : Nat → Nat → Int32) (n t : Nat) (sa A : Nat → Nat) (k : Nat) (mx : Nat → Nat) (Fr : Nat → Option Nat) (PP : va_W) (T : Nat → Int32) : Prop := (f 3 = nI n) ∧ (n ≤ 40) ∧ (f 15 = nI t) ∧ (t ≤ 1200) ∧ (f 2 = 0 ∨ f 2 = 1) ∧ (∀ i, g 1 i &&& 255 = g 1 i) ∧ (∀ i, T i &&& 255 = T i) ∧ (∀ i, i < t → T i = g 16 i) ∧ (∀ s s', s < n → s' < n → g 4 s = g 4 s' → s = s') ∧ (∀ s, s < n → syC (sEn g sa A s) ∈ PP) ∧ (∀ s, s < n → g 7 s = -1 ∨ ∃ j, lv g j ∧ g 7 s = nI j) ∧ (k ≤ 12) ∧ (∀ i, i < k → lv g (mx i)) ∧ (∀ j, lv g j → ∃ i, i < k ∧ mx i = j) ∧ (∀ i i', i < i' → i' < k → g 10 (mx i) < g 10 (mx i')) ∧ (∀ j j', lv g j → lv g j' → g 9 j = g 9 j' → j = j') ∧ (∀ j j', lv g j → lv g j' → A j = A j' → j = j') ∧ (∀ j, lv g j → ∃ u s w, g 10 j = nI (512 + 16 * u) ∧ g 11 j = nI s ∧ g 12 j = nI w ∧ 4 ≤ s ∧ s ≤ 512 ∧ w ≤ s ∧ u + (s + 15) / 16 ≤ 208) ∧ (∀ r j, r < 208 → lv g j → (Fr r = some (A j) ↔ cov g j r)) ∧ (∀ r, r < 208 → Fr r = none ∨ ∃ j, lv g j ∧ Fr r = some (A j)) ∧ (∀ j, lv g j → ∃ l : List Nat, MOi G PP (A j) (mvs (g 9 j) (g 10 j) (g 11 j) (g 12 j) (g 13 j) (nI (rcnt (ofP g n j) 40))) l.length (nfL A l) ∧ l.Nodup ∧ (∀ i, i ∈ l ↔ i < 12 ∧ ¬ g 14 (12 * j + i) = 0)) ∧ (∀ j i, j < 12 → i < 12 → ¬ g 14 (12 * j + i) = 0 → lv g j ∧ lv g i ∧ i ≠ j)
theorem RI.hn {G : eg_G} {f : Nat → Int32} {g : Nat → Nat → Int32} {n t : Nat} {sa A : Nat → Nat} {k : Nat} {mx : Nat → Nat} {Fr : Nat → Option Nat} {PP : va_W} {T : Nat → Int32} (h : RI G f g n t sa A k mx Fr PP T) : f 3 = nI n := h.1
theorem RI.hn2 {G : eg_G} {f : Nat → Int32} {g : Nat → Nat → Int32} {n t : Nat} {sa A : Nat → Nat} {k : Nat} {mx : Nat → Nat} {Fr : Nat → Option Nat} {PP : va_W} {T : Nat → Int32} (h : RI G f g n t sa A k mx Fr PP T) : n ≤ 40 := h.2.1
theorem RI.ht {G : eg_G} {f : Nat → Int32} {g : Nat → Nat → Int32} {n t : Nat} {sa A : Nat → Nat} {k : Nat} {mx : Nat → Nat} {Fr : Nat → Option Nat} {PP : va_W} {T : Nat → Int32} (h : RI G f g n t sa A k mx Fr PP T) : f 15 = nI t := h.2.2.1
theorem RI.ht2 {G : eg_G} {f : Nat → Int32} {g : Nat → Nat → Int32} {n t : Nat} {sa A : Nat → Nat} {k : Nat} {mx : Nat → Nat} {Fr : Nat → Option Nat} {PP : va_W} {T : Nat → Int32} (h : RI G f g n t sa A k mx Fr PP T) : t ≤ 1200 := h.2.2.2.1
theorem RI.hse {G : eg_G} {f : Nat → Int32} {g : Nat → Nat → Int32} {n t : Nat} {sa A : Nat → Nat} {k : Nat} {mx : Nat → Nat} {Fr : Nat → Option Nat} {PP : va_W} {T : Nat → Int32} (h : RI G f g n t sa A k mx Fr PP T) : f 2 = 0 ∨ f 2 = 1 := h.2.2.2.2.1
theorem RI.hM {G : eg_G} {f : Nat → Int32} {g : Nat → Nat → Int32} {n t : Nat} {sa A : Nat → Nat} {k : Nat} {mx : Nat → Nat} {Fr : Nat → Option Nat} {PP : va_W} {T : Nat → Int32} (h : RI G f g n t sa A k mx Fr PP T) : ∀ i, g 1 i &&& 255 = g 1 i := h.2.2.2.2.2.1
theorem RI.hTb {G : eg_G} {f : Nat → Int32} {g : Nat → Nat → Int32} {n t : Nat} {sa A : Nat → Nat} {k : Nat} {mx : Nat → Nat} {Fr : Nat → Option Nat} {PP : va_W} {T : Nat → Int32} (h : RI G f g n t sa A k mx Fr PP T) : ∀ i, T i &&& 255 = T i := h.2.2.2.2.2.2.1
theorem RI.hT {G : eg_G} {f : Nat → Int32} {g : Nat → Nat → Int32} {n t : Nat} {sa A : Nat → Nat} {k : Nat} {mx : Nat → Nat} {Fr : Nat → Option Nat} {PP : va_W} {T : Nat → Int32} (h : RI G f g n t sa A k mx Fr PP T) : ∀ i, i < t → T i = g 16 i := h.2.2.2.2.2.2.2.1
theorem RI.hnd {G : eg_G} {f : Nat → Int32} {g : Nat → Nat → Int32} {n t : Nat} {sa A : Nat → Nat} {k : Nat} {mx : Nat → Nat} {Fr : Nat → Option Nat} {PP : va_W} {T : Nat → Int32} (h : RI G f g n t sa A k mx Fr PP T) : ∀ s s', s < n → s' < n → g 4 s = g 4 s' → s = s' := h.2.2.2.2.2.2.2.2.1
theorem RI.hPS {G : eg_G} {f : Nat → Int32} {g : Nat → Nat → Int32} {n t : Nat} {sa A : Nat → Nat} {k : Nat} {mx : Nat → Nat} {Fr : Nat → Option Nat} {PP : va_W} {T : Nat → Int32} (h : RI G f g n t sa A k mx Fr PP T) : ∀ s, s < n → syC (sEn g sa A s) ∈ PP := h.2.2.2.2.2.2.2.2.2.1
theorem RI.hof {G : eg_G} {f : Nat → Int32} {g : Nat → Nat → Int32} {n t : Nat} {sa A : Nat → Nat} {k : Nat} {mx : Nat → Nat} {Fr : Nat → Option Nat} {PP : va_W} {T : Nat → Int32} (h : RI G f g n t sa A k mx Fr PP T) : ∀ s, s < n → g 7 s = -1 ∨ ∃ j, lv g j ∧ g 7 s = nI j := h.2.2.2.2.2.2.2.2.2.2.1
theorem RI.hk {G : eg_G} {f : Nat → Int32} {g : Nat → Nat → Int32} {n t : Nat} {sa A : Nat → Nat} {k : Nat} {mx : Nat → Nat} {Fr : Nat → Option Nat} {PP : va_W} {T : Nat → Int32} (h : RI G f g n t sa A k mx Fr PP T) : k ≤ 12 := h.2.2.2.2.2.2.2.2.2.2.2.1
theorem RI.mlt {G : eg_G} {f : Nat → Int32} {g : Nat → Nat → Int32} {n t : Nat} {sa A : Nat → Nat} {k : Nat} {mx : Nat → Nat} {Fr : Nat → Option Nat} {PP : va_W} {T : Nat → Int32} (h : RI G f g n t sa A k mx Fr PP T) : ∀ i, i < k → lv g (mx i) := h.2.2.2.2.2.2.2.2.2.2.2.2.1
theorem RI.msur {G : eg_G} {f : Nat → Int32} {g : Nat → Nat → Int32} {n t : Nat} {sa A : Nat → Nat} {k : Nat} {mx : Nat → Nat} {Fr : Nat → Option Nat} {PP : va_W} {T : Nat → Int32} (h : RI G f g n t sa A k mx Fr PP T) : ∀ j, lv g j → ∃ i, i < k ∧ mx i = j := h.2.2.2.2.2.2.2.2.2.2.2.2.2.1
theorem RI.mord {G : eg_G} {f : Nat → Int32} {g : Nat → Nat → Int32} {n t : Nat} {sa A : Nat → Nat} {k : Nat} {mx : Nat → Nat} {Fr : Nat → Option Nat} {PP : va_W} {T : Nat → Int32} (h : RI G f g n t sa A k mx Fr PP T) : ∀ i i', i < i' → i' < k → g 10 (mx i) < g 10 (mx i') := h.2.2.2.2.2.2.2.2.2.2.2.2.2.2.1
theorem RI.mname {G : eg_G} {f : Nat → Int32} {g : Nat → Nat → Int32} {n t : Nat} {sa A : Nat → Nat} {k : Nat} {mx : Nat → Nat} {Fr : Nat → Option Nat} {PP : va_W} {T : Nat → Int32} (h : RI G f g n t sa A k mx Fr PP T) : ∀ j j', lv g j → lv g j' → g 9 j = g 9 j' → j = j' := h.2.2.2.2.2.2.2.2.2.2.2.2.2.2.2.1
theorem RI.Ainj {G : eg_G} {f : Nat → Int32} {g : Nat → Nat → Int32} {n t : Nat} {sa A : Nat → Nat} {k : Nat} {mx : Nat → Nat} {Fr : Nat → Option Nat} {PP : va_W} {T : Nat → Int32} (h : RI G f g n t sa A k mx Fr PP T) : ∀ j j', lv g j → lv g j' → A j = A j' → j = j' := h.2.2.2.2.2.2.2.2.2.2.2.2.2.2.2.2.1
theorem RI.geo {G : eg_G} {f : Nat → Int32} {g : Nat → Nat → Int32} {n t : Nat} {sa A : Nat → Nat} {k : Nat} {mx : Nat → Nat} {Fr : Nat → Option Nat} {PP : va_W} {T : Nat → Int32} (h : RI G f g n t sa A k mx Fr PP T) : ∀ j, lv g j → ∃ u s w, g 10 j = nI (512 + 16 * u) ∧ g 11 j = nI s ∧ g 12 j = nI w ∧ 4 ≤ s ∧ s ≤ 512 ∧ w ≤ s ∧ u + (s + 15) / 16 ≤ 208 := h.2.2.2.2.2.2.2.2.2.2.2.2.2.2.2.2.2.1
theorem RI.rows {G : eg_G} {f : Nat → Int32} {g : Nat → Nat → Int32} {n t : Nat} {sa A : Nat → Nat} {k : Nat} {mx : Nat → Nat} {Fr : Nat → Option Nat} {PP : va_W} {T : Nat → Int32} (h : RI G f g n t sa A k mx Fr PP T) : ∀ r j, r < 208 → lv g j → (Fr r = some (A j) ↔ cov g j r) := h.2.2.2.2.2.2.2.2.2.2.2.2.2.2.2.2.2.2.1
theorem RI.rown {G : eg_G} {f : Nat → Int32} {g : Nat → Nat → Int32} {n t : Nat} {sa A : Nat → Nat} {k : Nat} {mx : Nat → Nat} {Fr : Nat → Option Nat} {PP : va_W} {T : Nat → Int32} (h : RI G f g n t sa A k mx Fr PP T) : ∀ r, r < 208 → Fr r = none ∨ ∃ j, lv g j ∧ Fr r = some (A j) := h.2.2.2.2.2.2.2.2.2.2.2.2.2.2.2.2.2.2.2.1
theorem RI.pool {G : eg_G} {f : Nat → Int32} {g : Nat → Nat → Int32} {n t : Nat} {sa A : Nat → Nat} {k : Nat} {mx : Nat → Nat} {Fr : Nat → Option Nat} {PP : va_W} {T : Nat → Int32} (h : RI G f g n t sa A k mx Fr PP T) : ∀ j, lv g j → ∃ l : List Nat, MOi G PP (A j) (mvs (g 9 j) (g 10 j) (g 11 j) (g 12 j) (g 13 j) (nI (rcnt (ofP g n j) 40))) l.length (nfL A l) ∧ l.Nodup ∧ (∀ i, i ∈ l ↔ i < 12 ∧ ¬ g 14 (12 * j + i) = 0) := h.2.2.2.2.2.2.2.2.2.2.2.2.2.2.2.2.2.2.2.2.1
theorem RI.need {G : eg_G} {f : Nat → Int32} {g : Nat → Nat → Int32} {n t : Nat} {sa A : Nat → Nat} {k : Nat} {mx : Nat → Nat} {Fr : Nat → Option Nat} {PP : va_W} {T : Nat → Int32} (h : RI G f g n t sa A k mx Fr PP T) : ∀ j i, j < 12 → i < 12 → ¬ g 14 (12 * j + i) = 0 → lv g j ∧ lv g i ∧ i ≠ j := h.2.2.2.2.2.2.2.2.2.2.2.2.2.2.2.2.2.2.2.2.2
theorem RI.of {G : eg_G} {f : Nat → Int32} {g : Nat → Nat → Int32} {n t : Nat} {sa A : Nat → Nat} {k : Nat} {mx : Nat → Nat} {Fr : Nat → Option Nat} {PP : va_W} {T : Nat → Int32} (hn : f 3 = nI n) (hn2 : n ≤ 40) (ht : f 15 = nI t) (ht2 : t ≤ 1200) (hse : f 2 = 0 ∨ f 2 = 1) (hM : ∀ i, g 1 i &&& 255 = g 1 i) (hTb : ∀ i, T i &&& 255 = T i) (hT : ∀ i, i < t → T i = g 16 i) (hnd : ∀ s s', s < n → s' < n → g 4 s = g 4 s' → s = s') (hPS : ∀ s, s < n → syC (sEn g sa A s) ∈ PP) (hof : ∀ s, s < n → g 7 s = -1 ∨ ∃ j, lv g j ∧ g 7 s = nI j) (hk : k ≤ 12) (mlt : ∀ i, i < k → lv g (mx i)) (msur : ∀ j, lv g j → ∃ i, i < k ∧ mx i = j) (mord : ∀ i i', i < i' → i' < k → g 10 (mx i) < g 10 (mx i')) (mname : ∀ j j', lv g j → lv g j' → g 9 j = g 9 j' → j = j') (Ainj : ∀ j j', lv g j → lv g j' → A j = A j' → j = j') (geo : ∀ j, lv g j → ∃ u s w, g 10 j = nI (512 + 16 * u) ∧ g 11 j = nI s ∧ g 12 j = nI w ∧ 4 ≤ s ∧ s ≤ 512 ∧ w ≤ s ∧ u + (s + 15) / 16 ≤ 208) (rows : ∀ r j, r < 208 → lv g j → (Fr r = some (A j) ↔ cov g j r)) (rown : ∀ r, r < 208 → Fr r = none ∨ ∃ j, lv g j ∧ Fr r = some (A j)) (pool : ∀ j, lv g j → ∃ l : List Nat, MOi G PP (A j) (mvs (g 9 j) (g 10 j) (g 11 j) (g 12 j) (g 13 j) (nI (rcnt (ofP g n j) 40))) l.length (nfL A l) ∧ l.Nodup ∧ (∀ i, i ∈ l ↔ i < 12 ∧ ¬ g 14 (12 * j + i) = 0)) (need : ∀ j i, j < 12 → i < 12 → ¬ g 14 (12 * j + i) = 0 → lv g j ∧ lv g i ∧ i ≠ j) : RI G f g n t sa A k mx Fr PP T := ⟨hn, hn2, ht, ht2, hse, hM, hTb, hT, hnd, hPS, hof, hk, mlt, msur, mord, mname, Ainj, geo, rows, rown, pool, need⟩
def CW (G : eg_G) (x : Nat) (r : Nat → Nat) (f : Nat → Int32) (a : Nat → Nat) (g : Nat → Nat → Int32) (pc tr md : Int32) (pl gn n : Nat) (marks : Int32) (F : Nat → Option Nat) (PP : va_W) (b k : Nat) (y : Int32) (q : va_W) (Fr : Nat → Option Nat) (T : Nat → Int32) : eg_S := [LO x r f, MA G a (g 1) (gdB f g) (g 22) pc tr md, SO (r 1) pl gn (nI n) marks, SPl G pl F, SG gn, PP, ALo (r 2) b k y, q, RW G (r 3) Fr, TP G (r 4) T]
def CR (G : eg_G) (x : Nat) (f : Nat → Int32) (g : Nat → Nat → Int32) (S : eg_S) : Prop := ∃ (r a : Nat → Nat) (pc tr md : Int32) (pl gn n t : Nat) (marks : Int32) (F : Nat → Option Nat) (sa A : Nat → Nat) (PP : va_W) (b k : Nat) (y : Int32) (q : va_W) (mx : Nat → Nat) (Fr : Nat → Option Nat) (T : Nat → Int32), S = CW G x r f a g pc tr md pl gn n marks F PP b k y q Fr T ∧ r 0 = a 0 ∧ RI G f g n t sa A k mx Fr PP T ∧ TB F gn (SL g sa A n) ∧ ALw G b k (lsF (fun i => A (mx i)) k) q
/-- the numbers that the loader keeps -/
def fEq (f f' : Nat → Int32) : Prop := f' 2 = f 2 ∧ f' 3 = f 3 ∧ f' 15 = f 15 ∧ f' 17 = f 17 ∧ f' 18 = f 18 ∧ f' 19 = f 19 ∧ f' 20 = f 20 ∧ f' 21 = f 21
theorem LO_eq {x : Nat} {r : Nat → Nat} {f f' : Nat → Int32} (h : fEq f f') : LO x r f' = LO x r f := by
  obtain ⟨a, b, c, d, e, i, j, k⟩ := h
  unfold LO LOl
  rw [a, c, d, e, i, j, k]
theorem fEq.gd {f f' : Nat → Int32} {g : Nat → Nat → Int32} (h : fEq f f') : gdB f' g = gdB f g := gdB_up h.1 rfl rfl rfl
theorem CR.f {G : eg_G} {x : Nat} {f f' : Nat → Int32} {g : Nat → Nat → Int32} {S : eg_S} (h : CR G x f g S) (e : fEq f f') : CR G x f' g S := by
  obtain ⟨r, a, pc, tr, md, pl, gn, n, t, marks, F, sa, A, PP, b, k, y, q, mx, Fr, T, rfl, h0, hR, hT, hw⟩ := h
  refine ⟨r, a, pc, tr, md, pl, gn, n, t, marks, F, sa, A, PP, b, k, y, q, mx, Fr, T, ?_, h0, ?_, hT, hw⟩
  · unfold CW
    rw [LO_eq e, e.gd]
  · exact ⟨e.2.1.trans hR.hn, hR.2.1, e.2.2.1.trans hR.ht, hR.2.2.2.1, by rw [e.1]; exact hR.hse, hR.2.2.2.2.2⟩
theorem fEq.u0 (f : Nat → Int32) (v : Int32) : fEq f (va_up f 0 v) := ⟨rfl, rfl, rfl, rfl, rfl, rfl, rfl, rfl⟩
theorem fEq.re (f : Nat → Int32) : fEq f f := ⟨Eq.refl _, Eq.refl _, Eq.refl _, Eq.refl _, Eq.refl _, Eq.refl _, Eq.refl _, Eq.refl _⟩
theorem fEq.tr {f f' f'' : Nat → Int32} (h : fEq f f') (h' : fEq f' f'') : fEq f f'' := ⟨h'.1.trans h.1, h'.2.1.trans h.2.1, h'.2.2.1.trans h.2.2.1, h'.2.2.2.1.trans h.2.2.2.1, h'.2.2.2.2.1.trans h.2.2.2.2.1, h'.2.2.2.2.2.1.trans h.2.2.2.2.2.1, h'.2.2.2.2.2.2.1.trans h.2.2.2.2.2.2.1, h'.2.2.2.2.2.2.2.trans h.2.2.2.2.2.2.2⟩
/-! counting -/
theorem rcnt_len (p : Nat → Bool) : ∀ n, rcnt p n = ((List.range n).filter p).length
  | 0 => rfl
  | n + 1 => by
    rw [rcnt, rcnt_len p n, List.range_succ, List.filter_append, List.length_append]
    congr 1
    cases h : p n
    · simp [h]
    · simp [h]
theorem len_same {l l' : List Nat} (h : l.Nodup) (h' : l'.Nodup) (e : ∀ i, i ∈ l ↔ i ∈ l') : l.length = l'.length := ((List.perm_ext_iff_of_nodup h h').mpr e).length_eq
theorem rcnt_bij {p p' : Nat → Bool} {k N : Nat} {mx : Nat → Nat} (hi : ∀ i i', i < k → i' < k → mx i = mx i' → i = i') (hlt : ∀ i, i < k → mx i < N) (hp : ∀ i, i < k → p i = p' (mx i)) (hs : ∀ j, j < N → p' j = true → ∃ i, i < k ∧ mx i = j) : rcnt p k = rcnt p' N := by
  rw [rcnt_len, rcnt_len, ← List.length_map (f := mx)]
  refine len_same ?_ (List.nodup_range.filter _) (fun j => ?_)
  · rw [List.Nodup, List.pairwise_map]
    refine List.Pairwise.imp_of_mem ?_ (List.nodup_range.filter p)
    intro i i' h1 h2 hne e
    rw [List.mem_filter, List.mem_range] at h1 h2
    exact hne (hi i i' h1.1 h2.1 e)
  · rw [List.mem_map, List.mem_filter, List.mem_range]
    constructor
    · rintro ⟨i, h1, rfl⟩
      rw [List.mem_filter, List.mem_range] at h1
      exact ⟨hlt i h1.1, by rw [← hp i h1.1]; exact h1.2⟩
    · rintro ⟨h1, h2⟩
      obtain ⟨i, h3, rfl⟩ := hs j h1 h2
      exact ⟨i, by rw [List.mem_filter, List.mem_range]; exact ⟨h3, by rw [hp i h3]; exact h2⟩, rfl⟩
theorem rcnt_congr {p p' : Nat → Bool} : ∀ {n : Nat}, (∀ i, i < n → p i = p' i) → rcnt p n = rcnt p' n
  | 0, _ => rfl
  | n + 1, h => by rw [rcnt, rcnt, rcnt_congr (fun i hi => h i (by omega)), h n (by omega)]
theorem rwC_congr {p p' : Nat → Bool} : ∀ {n : Nat}, (∀ i, i < n → p i = p' i) → rwC p n = rwC p' n
  | 0, _ => rfl
  | n + 1, h => by rw [rwC, rwC, rwC_congr (fun i hi => h i (by omega)), h n (by omega)]
theorem rmx_congr {p p' : Nat → Bool} : ∀ {n : Nat}, (∀ i, i < n → p i = p' i) → rmx p n = rmx p' n
  | 0, _ => rfl
  | n + 1, h => by rw [rmx, rmx, rmx_congr (fun i hi => h i (by omega)), rwC_congr h]
theorem tfind_no {p : Nat → Bool} {n : Nat} (h : tfind p n = none) (i : Nat) (hi : i < n) : p i = false := by
  unfold tfind at h
  rw [List.find?_eq_none] at h
  have := h i (List.mem_range.mpr hi)
  simpa using this
theorem tfind_congr {p p' : Nat → Bool} {n : Nat} (h : ∀ i, i < n → p i = p' i) : tfind p n = tfind p' n := by
  cases hs : tfind p' n with
  | some j =>
    obtain ⟨h1, h2, h3⟩ := tfind_lt hs
    exact tfind_some h1 (by rw [h j h1]; exact h2) (fun i hi => by rw [h i (by omega)]; exact h3 i hi)
  | none => exact tfind_none (fun i hi => by rw [h i hi]; exact tfind_no hs i hi)
theorem rwF_congr {p p' : Nat → Bool} {n N : Nat} (h : ∀ i, i < N → p i = p' i) : rwF p n N = rwF p' n N := tfind_congr (fun i hi => by rw [rwC_congr (fun j hj => h j (by omega))])
