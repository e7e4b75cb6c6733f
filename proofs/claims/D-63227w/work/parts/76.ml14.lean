/-! THE LOADER, 14: a module enters -/
def wrM (M : Nat → Int32) (ad : Nat) (F : Nat → Int32) : Nat → (Nat → Int32)
  | 0 => M
  | j + 1 => putB (wrM M ad F j) (ad + 4 * j) (F j) 4
/-- the modules that the first so many imports need, in their order -/
def ndL (g : Nat → Nat → Int32) (n : Nat) (T : Nat → Int32) (Lf : Nat) : Nat → List Nat
  | 0 => []
  | j + 1 => if g 7 ((tsym g n (wdA T (imA Lf j))).getD 0) < 0 then ndL g n T Lf j else if (g 7 ((tsym g n (wdA T (imA Lf j))).getD 0)).toNatClampNeg ∈ ndL g n T Lf j then ndL g n T Lf j else ndL g n T Lf j ++ [(g 7 ((tsym g n (wdA T (imA Lf j))).getD 0)).toNatClampNeg]
theorem ndL_len (g : Nat → Nat → Int32) (n : Nat) (T : Nat → Int32) (Lf : Nat) : ∀ j, (ndL g n T Lf j).length ≤ j
  | 0 => Nat.le_refl _
  | j + 1 => by
    have := ndL_len g n T Lf j
    rw [ndL]
    split
    · omega
    · split
      · omega
      · rw [List.length_append, List.length_singleton]; omega
def nfL (A : Nat → Nat) (l : List Nat) : Nat → Nat := fun i => A (l.getD i 0)
theorem nfL_s (A : Nat → Nat) (l : List Nat) (v : Nat) : va_up (lsF (nfL A l) l.length) l.length (some (A v)) = lsF (nfL A (l ++ [v])) (l ++ [v]).length := by
  rw [lsF_s, List.length_append, List.length_singleton]
  funext i
  unfold lsF
  by_cases h : i < l.length + 1
  · rw [if_pos h, if_pos h]
    unfold nfL
    by_cases h2 : i = l.length
    · rw [h2, va_up_self]
      simp
    · rw [va_up_ne _ _ h2]
      simp [List.getElem?_append_left (show i < l.length by omega)]
  · rw [if_neg h, if_neg h]
theorem nfL_any {A : Nat → Nat} {l : List Nat} {v : Nat} (hA : ∀ u ∈ l, A u = A v → u = v) : rany (fun i => decide (lsF (nfL A l) l.length i = some (A v))) l.length = decide (v ∈ l) := by
  by_cases h : v ∈ l
  · rw [decide_eq_true h]
    obtain ⟨i, hi, e⟩ := List.mem_iff_getElem.mp h
    refine rany_iff.mpr ⟨i, hi, decide_eq_true ?_⟩
    rw [lsF_lt _ hi, nfL]
    simp [e, hi]
  · rw [decide_eq_false h]
    cases hr : rany (fun i => decide (lsF (nfL A l) l.length i = some (A v))) l.length with
    | false => rfl
    | true =>
      obtain ⟨i, hi, e⟩ := rany_iff.mp hr
      have e := of_decide_eq_true e
      rw [lsF_lt _ hi, nfL] at e
      have hu : l.getD i 0 ∈ l := by simp [hi]
      exact absurd (hA _ hu (Option.some.inj e) ▸ hu) h
/-- the new symbols -/
def nsE (T : Nat → Int32) (Lf M : Nat) (ad : Int32) (m : Nat) (se : Nat → Nat) (i : Nat) : sE := (se i, wdA T (exA Lf M i), wdA T (exA Lf M i + 4), ad + wdA T (exA Lf M i + 8), some m)
def nsL (T : Nat → Int32) (Lf M : Nat) (ad : Int32) (m : Nat) (se : Nat → Nat) (j : Nat) : List sE := (List.range j).map (nsE T Lf M ad m se)
theorem nsL_s (T : Nat → Int32) (Lf M : Nat) (ad : Int32) (m : Nat) (se : Nat → Nat) (j e : Nat) : nsL T Lf M ad m (va_up se j e) (j + 1) = nsL T Lf M ad m se j ++ [(e, wdA T (exA Lf M j), wdA T (exA Lf M j + 4), ad + wdA T (exA Lf M j + 8), some m)] := by
  unfold nsL
  rw [List.range_succ, List.map_append]
  congr 1
  · refine List.map_congr_left fun i hi => ?_
    rw [List.mem_range] at hi
    unfold nsE
    rw [va_up_ne _ _ (by omega)]
  · show [nsE T Lf M ad m (va_up se j e) j] = _
    unfold nsE
    rw [va_up_self]
theorem nsL_len (T : Nat → Int32) (Lf M : Nat) (ad : Int32) (m : Nat) (se : Nat → Nat) (j : Nat) : (nsL T Lf M ad m se j).length = j := by
  unfold nsL
  rw [List.length_map, List.length_range]
theorem c_Mo_needs3 (l : Launch) (G : eg_G) (m nl b len a : Nat) (x : Int32) (f : Nat → Option Nat) (q : va_W) (vs : List Value) (hv : vs[6]? = some (.ref nl)) (hl : len ≤ 8) (hw : ALw G b len f q) : Ct l G y_Mo_needs 4 0 0 [.ref m, .ref a] [[(m, .inr (15, vs))], ALo nl b len x, q] (rF (some (.int (bI (rany (fun i => decide (f i = some a)) len)))) [[(m, .inr (15, vs))], ALo nl b len x, q]) := by
  have hm : (m, .inr (15, vs)) ∈ [(m, .inr (15, vs))] ++ (ALo nl b len x ++ q) := List.mem_append_left _ List.mem_cons_self
  have ho : (nl, .inr (10, [.ref b, .int (nI len), .int x])) ∈ [(m, .inr (15, vs))] ++ (ALo nl b len x ++ q) := List.mem_append_right _ (List.mem_append_left _ List.mem_cons_self)
  rcases hw with ⟨h1, h2, h3⟩ | ⟨cap, rfl, hcp, hcl⟩
  · exact (c_Mo_needs l G ([(m, .inr (15, vs))] ++ (ALo nl b len x ++ q)) m nl b len 0 a x f vs hv hm ho (by omega) (fun z => absurd z (by omega))).cutF (by simp) (by simp)
  · exact (c_Mo_needs l G ([(m, .inr (15, vs))] ++ (ALo nl b len x ++ ALq G b cap f)) m nl b len cap a x f vs hv hm ho (by omega) (fun _ => ⟨List.mem_append_right _ (List.mem_append_right _ List.mem_cons_self), hcl, by have := cpO_lt hcp; omega⟩)).cutF (by simp) (by simp)
theorem nd_in {S : eg_S} (h : (S.flatten.map Prod.fst).Nodup) {i j : Nat} (hij : i < j) {P Q : va_W} (hi : S[i]? = some P) (hj : S[j]? = some Q) {a b : Nat × ((ClassId × vp_A) ⊕ (Nat × List Value))} (ha : a ∈ P) (hb : b ∈ Q) : a.1 ≠ b.1 := by
  rw [List.map_flatten, List.Nodup, List.pairwise_flatten] at h
  obtain ⟨hi', ei⟩ := List.getElem?_eq_some_iff.mp hi
  obtain ⟨hj', ej⟩ := List.getElem?_eq_some_iff.mp hj
  refine List.pairwise_iff_getElem.mp h.2 i j (by rw [List.length_map]; exact hi') (by rw [List.length_map]; exact hj') hij a.1 ?_ b.1 ?_
  · rw [List.getElem_map, ei]
    exact List.mem_map_of_mem ha
  · rw [List.getElem_map, ej]
    exact List.mem_map_of_mem hb
theorem ndL_mem {g : Nat → Nat → Int32} {n : Nat} {T : Nat → Int32} {Lf : Nat} : ∀ {j : Nat}, (∀ i, i < j → ∃ s, tsym g n (wdA T (imA Lf i)) = some s) → ∀ w ∈ ndL g n T Lf j, ∃ s, s < n ∧ ¬ g 7 s < 0 ∧ w = (g 7 s).toNatClampNeg
  | 0, _, w, hw => absurd hw List.not_mem_nil
  | j + 1, hfd, w, hw => by
    obtain ⟨s, hs⟩ := hfd j (by omega)
    have ih := ndL_mem (j := j) (fun i hi => hfd i (by omega)) w
    rw [ndL, hs] at hw
    by_cases hneg : g 7 s < 0
    · rw [if_pos (show g 7 ((some s).getD 0) < 0 from hneg)] at hw
      exact ih hw
    · rw [if_neg (show ¬ g 7 ((some s).getD 0) < 0 from hneg)] at hw
      split at hw
      · exact ih hw
      · rcases List.mem_append.mp hw with z | z
        · exact ih z
        · exact ⟨s, (tfind_lt hs).1, hneg, List.mem_singleton.mp z⟩
set_option maxRecDepth 100000 in
set_option maxHeartbeats 8000000 in
theorem c_ML_enter (l : Launch) (G : eg_G) (x : Nat) (r : Nat → Nat) (f : Nat → Int32) (a : Nat → Nat) (M : Nat → Int32) (P : Int32 → Bool) (R : Nat → Int32) (pc tr md : Int32) (hr0 : r 0 = a 0) (pl gn n : Nat) (marks : Int32) (F : Nat → Option Nat) (g : Nat → Nat → Int32) (sa A : Nat → Nat) (PP : va_W) (hT : TB F gn (SL g sa A n)) (hPS : ∀ e ∈ SL g sa A n, syC e ∈ PP) (hN : ((SL g sa A n).map (fun e => e.2.1)).Nodup) (b k : Nat) (y : Int32) (q : va_W) (ma : Nat → Nat) (hw : ALw G b k (lsF ma k) q) (hk : k ≤ 12) (ba : Nat → Int32) (hmo : ∀ i, i < k → ∃ vs, (ma i, .inr (15, vs)) ∈ PP ∧ vs[1]? = some (.int (ba i))) (Fr : Nat → Option Nat) (ro tp t p ia : Nat) (ini exi : Int32) (gu la lb lc : Nat) (T U : Nat → Int32) (Q : va_W) (Lf Im Ne u : Nat) (nm : Int32) (hL1 : 4 ≤ Lf) (hL : Lf ≤ 512) (hM : Im ≤ 8) (hE : Ne ≤ 8) (hnE : n + Ne ≤ 40) (hgu : gu ≤ 512) (hgb : 512 + 16 * u + gu ≤ 4096) (hu : u + (4 * (Lf / 4) + 15) / 16 ≤ 208) (hfd : ∀ i, i < Im → ∃ s, tsym g n (wdA T (imA Lf i)) = some s) (hown : ∀ s, s < n → ¬ g 7 s < 0 → ∃ vs, (A (g 7 s).toNatClampNeg, .inr (15, vs)) ∈ PP) (hAn : ∀ s s', s < n → s' < n → ¬ g 7 s < 0 → ¬ g 7 s' < 0 → A (g 7 s).toNatClampNeg = A (g 7 s').toNatClampNeg → (g 7 s).toNatClampNeg = (g 7 s').toNatClampNeg) (hQ1 : FLs G Q la Im 12 (imV T Lf)) (hQ2 : FLs G Q lb Ne 13 (exW T Lf Im)) : Ct l G y_ML_enter 10 20 1000 [.ref x, .ref ro, .int nm, .int (nI (512 + 16 * u))] [LO x r f, MA G a M P R pc tr md, SO (r 1) pl gn (nI n) marks, SPl G pl F, SG gn, PP, ALo (r 2) b k y, q, RW G (r 3) Fr, RO ro tp t p (.ref ia) ini exi (nI gu) la lb lc, IMG G ia (Lf / 4) (imgF U (Lf / 4)), Q] (fun o S2 => ∃ m se nl F2 m2 b4 y4 q4 b5 y5 q5 j, o = .inl (some (.ref m)) ∧ S2 = [LO x r f, MA G a (wrM M (512 + 16 * u) (imgF U (Lf / 4)) (Lf / 4)) (gdU P (512 + 16 * u) true gu) R pc tr md, SO (r 1) pl gn (nI (n + Ne)) m2, SPl G pl F2, SG gn, (PP ++ ((nsL T Lf Im (nI (512 + 16 * u)) m se Ne).map syC ++ ([(m, .inr (15, [.int nm, .int (nI (512 + 16 * u)), .int (nI (4 * (Lf / 4))), .int (nI gu), .int exi, .int (nI Ne), .ref nl]))] ++ (ALo nl b4 (ndL g n T Lf Im).length y4 ++ q4)))), ALo (r 2) b5 (k + 1) y5, q5, RW G (r 3) (owF Fr u (some m) ((4 * (Lf / 4) + 15) / 16)), RO ro tp t p (.ref ia) ini exi (nI gu) la lb lc, IMG G ia (Lf / 4) (imgF U (Lf / 4)), Q] ∧ TB F2 gn (SL g sa A n ++ nsL T Lf Im (nI (512 + 16 * u)) m se Ne) ∧ ALw G b4 (ndL g n T Lf Im).length (lsF (nfL A (ndL g n T Lf Im)) (ndL g n T Lf Im).length) q4 ∧ j ≤ k ∧ (∀ i, i < j → ba i < (nI (512 + 16 * u))) ∧ (j < k → ¬ ba j < (nI (512 + 16 * u))) ∧ ALw G b5 (k + 1) (insF (lsF ma k) j m) q5 ∧ ∀ z ∈ PP, z.1 ≠ m) := by
  refine Ct.of cd_ML_enter (eg_catb rfl) (Nat.le_of_ble_eq_true rfl) ?_
  intro Γ hG
  have hR := hG.rm
  show Ex G Γ mu_ML_enter 0 [some (.ref x), some (.ref ro), some (.int nm), some (.int (nI (512 + 16 * u))), none, none, none] [] [LO x r f, MA G a M P R pc tr md, SO (r 1) pl gn (nI n) marks, SPl G pl F, SG gn, PP, ALo (r 2) b k y, q, RW G (r 3) Fr, RO ro tp t p (.ref ia) ini exi (nI gu) la lb lc, IMG G ia (Lf / 4) (imgF U (Lf / 4)), Q] 0 0
  obtain ⟨b5, c5, y5, a5, ho5, hq5, hm5⟩ := hQ1
  obtain ⟨b6, c6, y6, a6, ho6, hq6, hm6⟩ := hQ2
  have hAi : ∀ j, j < Im → ∀ w ∈ ndL g n T Lf j, ∀ s, tsym g n (wdA T (imA Lf j)) = some s → ¬ g 7 s < 0 → A w = A (g 7 s).toNatClampNeg → w = (g 7 s).toNatClampNeg := fun j hj w hw0 s hs hneg e => by
    obtain ⟨s', h1, h2, rfl⟩ := ndL_mem (fun i hi => hfd i (by omega)) w hw0
    exact hAn s' s h1 (tfind_lt hs).1 h2 hneg e
  have hnin : ∀ j, j ≤ Im → ∀ i, i < (ndL g n T Lf j).length → ∃ fs, (nfL A (ndL g n T Lf j) i, .inr (15, fs)) ∈ PP := fun j hj i hi => by
    have hw0 : (ndL g n T Lf j).getD i 0 ∈ ndL g n T Lf j := by simp [hi]
    obtain ⟨s', h1, h2, e⟩ := ndL_mem (fun i hi => hfd i (by omega)) _ hw0
    rw [nfL, e]
    exact hown s' h1 h2
  refine ex_new hR nw_ML_30 d_ML_enter_0 (by decide) (by decide) (fun m => ?_)
  refine ex_eqS [LO x r f, MA G a M P R pc tr md, SO (r 1) pl gn (nI n) marks, SPl G pl F, SG gn, PP, ALo (r 2) b k y, q, RW G (r 3) Fr, RO ro tp t p (.ref ia) ini exi (nI gu) la lb lc, IMG G ia (Lf / 4) (imgF U (Lf / 4)), Q, [(m, .inr (15, [.int 0, .int 0, .int 0, .int 0, .int 0, .int 0, .null]))]] rfl ?_
  refine ex_dup d_ML_enter_3 rfl ?_
  refine ex_il d_ML_enter_4 rfl ?_
  refine ex_il d_ML_enter_5 rfl ?_
  refine ex_al d_ML_enter_6 rfl ?_
  refine ex_call [12, 9, 10] hR (c_Mo_init l G m nm (nI (512 + 16 * u)) ro tp t p ia (Lf / 4) ini exi (nI gu) la lb lc (imgF U (Lf / 4))) (eg_invI d_ML_enter_7 cd_Mo_init rfl rfl tw_848 cx_ML_191 rfl rfl) cd_Mo_init rfl rfl (Nat.le_of_ble_eq_true rfl) (by decide) (by decide) (by decide) (by decide) (fun v S1 hK1 => ?_) (fun E S1 hK1 => ?_)
  rotate_left
  · obtain ⟨nl, h1, rfl⟩ := hK1
    cases h1
  obtain ⟨nl, h1, rfl⟩ := hK1
  cases h1
  refine ex_eqS [LO x r f, MA G a M P R pc tr md, SO (r 1) pl gn (nI n) marks, SPl G pl F, SG gn, PP, ALo (r 2) b k y, q, RW G (r 3) Fr, RO ro tp t p (.ref ia) ini exi (nI gu) la lb lc, IMG G ia (Lf / 4) (imgF U (Lf / 4)), Q, [(m, .inr (15, [.int nm, .int (nI (512 + 16 * u)), .int (nI (4 * (Lf / 4))), .int (nI gu), .int exi, .int 0, .ref nl]))], ALo nl G.2.2.2.1 0 0] rfl ?_
  refine ex_nd (fun hnd => ?_)
  have hmf : ∀ z ∈ PP, z.1 ≠ m := fun z hz => nd_in hnd (i := 5) (j := 12) (by decide) rfl rfl hz List.mem_cons_self
  have J244 : ∀ (se : Nat → Nat) (F2 : Nat → Option Nat) (m2 : Int32) (b4 : Nat) (y4 : Int32) (q4 : va_W), TB F2 gn (SL g sa A n ++ nsL T Lf Im (nI (512 + 16 * u)) m se Ne) → ALw G b4 (ndL g n T Lf Im).length (lsF (nfL A (ndL g n T Lf Im)) (ndL g n T Lf Im).length) q4 → ∀ j, j ≤ k → (∀ i, i < j → ba i < (nI (512 + 16 * u))) → Ex G Γ mu_ML_enter 244 [some (.ref x), some (.ref ro), some (.int nm), some (.int (nI (512 + 16 * u))), some (.ref m), some (.int (nI j)), none] [] [LO x r f, MA G a (wrM M (512 + 16 * u) (imgF U (Lf / 4)) (Lf / 4)) (gdU P (512 + 16 * u) true gu) R pc tr md, SO (r 1) pl gn (nI (n + Ne)) m2, SPl G pl F2, SG gn, (PP ++ ((nsL T Lf Im (nI (512 + 16 * u)) m se Ne).map syC ++ ([(m, .inr (15, [.int nm, .int (nI (512 + 16 * u)), .int (nI (4 * (Lf / 4))), .int (nI gu), .int exi, .int (nI Ne), .ref nl]))] ++ (ALo nl b4 (ndL g n T Lf Im).length y4 ++ q4)))), ALo (r 2) b k y, q, RW G (r 3) (owF Fr u (some m) ((4 * (Lf / 4) + 15) / 16)), RO ro tp t p (.ref ia) ini exi (nI gu) la lb lc, IMG G ia (Lf / 4) (imgF U (Lf / 4)), Q] 19 900 := by
    intro se F2 m2 b4 y4 q4 hT2 hw4
    have hfull : ∀ i, i < k → ∃ fs, (ma i, .inr (15, fs)) ∈ (PP ++ ((nsL T Lf Im (nI (512 + 16 * u)) m se Ne).map syC ++ ([(m, .inr (15, [.int nm, .int (nI (512 + 16 * u)), .int (nI (4 * (Lf / 4))), .int (nI gu), .int exi, .int (nI Ne), .ref nl]))] ++ (ALo nl b4 (ndL g n T Lf Im).length y4 ++ q4)))) := fun i hi => by
      obtain ⟨vs, h1, -⟩ := hmo i hi
      exact ⟨vs, List.mem_append_left _ h1⟩
    have hmP : (m, .inr (15, [.int nm, .int (nI (512 + 16 * u)), .int (nI (4 * (Lf / 4))), .int (nI gu), .int exi, .int (nI Ne), .ref nl])) ∈ (PP ++ ((nsL T Lf Im (nI (512 + 16 * u)) m se Ne).map syC ++ ([(m, .inr (15, [.int nm, .int (nI (512 + 16 * u)), .int (nI (4 * (Lf / 4))), .int (nI gu), .int exi, .int (nI Ne), .ref nl]))] ++ (ALo nl b4 (ndL g n T Lf Im).length y4 ++ q4)))) := List.mem_append_right _ (List.mem_append_right _ (List.mem_append_left _ List.mem_cons_self))
    refine eg_down k (fun j hj ih hlo => ?_)
    have J281 : (j < k → ¬ ba j < (nI (512 + 16 * u))) → Ex G Γ mu_ML_enter 281 [some (.ref x), some (.ref ro), some (.int nm), some (.int (nI (512 + 16 * u))), some (.ref m), some (.int (nI j)), none] [] [LO x r f, MA G a (wrM M (512 + 16 * u) (imgF U (Lf / 4)) (Lf / 4)) (gdU P (512 + 16 * u) true gu) R pc tr md, SO (r 1) pl gn (nI (n + Ne)) m2, SPl G pl F2, SG gn, (PP ++ ((nsL T Lf Im (nI (512 + 16 * u)) m se Ne).map syC ++ ([(m, .inr (15, [.int nm, .int (nI (512 + 16 * u)), .int (nI (4 * (Lf / 4))), .int (nI gu), .int exi, .int (nI Ne), .ref nl]))] ++ (ALo nl b4 (ndL g n T Lf Im).length y4 ++ q4)))), ALo (r 2) b k y, q, RW G (r 3) (owF Fr u (some m) ((4 * (Lf / 4) + 15) / 16)), RO ro tp t p (.ref ia) ini exi (nI gu) la lb lc, IMG G ia (Lf / 4) (imgF U (Lf / 4)), Q] 19 900 := by
      intro hhi
      refine ex_al d_ML_enter_281 rfl ?_
      refine ex_get1 0 fl_ML_26 d_ML_enter_282 rfl rfl ?_
      refine ex_il d_ML_enter_285 rfl ?_
      refine ex_al d_ML_enter_287 rfl ?_
      refine ex_call [6, 7, 5] hR (c_AL_add0 l G 15 7 "ModuleLoader$Module" F_Mo rfl ca_Mo (PP ++ ((nsL T Lf Im (nI (512 + 16 * u)) m se Ne).map syC ++ ([(m, .inr (15, [.int nm, .int (nI (512 + 16 * u)), .int (nI (4 * (Lf / 4))), .int (nI gu), .int exi, .int (nI Ne), .ref nl]))] ++ (ALo nl b4 (ndL g n T Lf Im).length y4 ++ q4)))) (r 2) b k j hj y (lsF ma k) q hw (by omega) (lsF_n ma k) (lsF_E hfull) m _ hmP) (eg_invV 6 d_ML_enter_289 cd_AL_add0 cx_ML_217 rfl rfl List.mem_cons_self rfl rfl) cd_AL_add0 rfl rfl (Nat.le_of_ble_eq_true rfl) (by decide) (by decide) (by decide) (by decide) (fun v S1 hK1 => ?_) (fun E S1 hK1 => ?_)
      rotate_left
      · obtain ⟨b5, q5, h1, rfl, hw5⟩ := hK1
        cases h1
      obtain ⟨b5, q5, h1, rfl, hw5⟩ := hK1
      cases h1
      refine ex_eqS [LO x r f, MA G a (wrM M (512 + 16 * u) (imgF U (Lf / 4)) (Lf / 4)) (gdU P (512 + 16 * u) true gu) R pc tr md, SO (r 1) pl gn (nI (n + Ne)) m2, SPl G pl F2, SG gn, (PP ++ ((nsL T Lf Im (nI (512 + 16 * u)) m se Ne).map syC ++ ([(m, .inr (15, [.int nm, .int (nI (512 + 16 * u)), .int (nI (4 * (Lf / 4))), .int (nI gu), .int exi, .int (nI Ne), .ref nl]))] ++ (ALo nl b4 (ndL g n T Lf Im).length y4 ++ q4)))), ALo (r 2) b5 (k + 1) (y + 1), q5, RW G (r 3) (owF Fr u (some m) ((4 * (Lf / 4) + 15) / 16)), RO ro tp t p (.ref ia) ini exi (nI gu) la lb lc, IMG G ia (Lf / 4) (imgF U (Lf / 4)), Q] rfl ?_
      refine ex_al d_ML_enter_292 rfl ?_
      exact ex_aret [LO x r f, MA G a (wrM M (512 + 16 * u) (imgF U (Lf / 4)) (Lf / 4)) (gdU P (512 + 16 * u) true gu) R pc tr md, SO (r 1) pl gn (nI (n + Ne)) m2, SPl G pl F2, SG gn, (PP ++ ((nsL T Lf Im (nI (512 + 16 * u)) m se Ne).map syC ++ ([(m, .inr (15, [.int nm, .int (nI (512 + 16 * u)), .int (nI (4 * (Lf / 4))), .int (nI gu), .int exi, .int (nI Ne), .ref nl]))] ++ (ALo nl b4 (ndL g n T Lf Im).length y4 ++ q4)))), ALo (r 2) b5 (k + 1) (y + 1), q5, RW G (r 3) (owF Fr u (some m) ((4 * (Lf / 4) + 15) / 16)), RO ro tp t p (.ref ia) ini exi (nI gu) la lb lc, IMG G ia (Lf / 4) (imgF U (Lf / 4)), Q] (r := some m) hG d_ML_enter_294 rfl (Or.inl ⟨_, rfl⟩) (by decide) (by decide) (eg_sub.of rfl) ⟨m, se, nl, F2, m2, b4, y4, q4, b5, y + 1, q5, j, rfl, rfl, hT2, hw4, hj, hlo, hhi, hw5, hmf⟩
    refine ex_il d_ML_enter_244 rfl ?_
    refine ex_al d_ML_enter_246 rfl ?_
    refine ex_get1 0 fl_ML_26 d_ML_enter_247 rfl rfl ?_
    refine ex_cF [6] hR (c_AL_size l G (ALo (r 2) b k y) (r 2) b k y List.mem_cons_self) (eg_invV 6 d_ML_enter_250 cd_AL_size cx_ML_114 rfl rfl List.mem_cons_self rfl rfl) cd_AL_size rfl rfl (Nat.le_of_ble_eq_true rfl) (by decide) (by decide) (by decide) (by decide) rfl ?_
    refine ex_eqS [LO x r f, MA G a (wrM M (512 + 16 * u) (imgF U (Lf / 4)) (Lf / 4)) (gdU P (512 + 16 * u) true gu) R pc tr md, SO (r 1) pl gn (nI (n + Ne)) m2, SPl G pl F2, SG gn, (PP ++ ((nsL T Lf Im (nI (512 + 16 * u)) m se Ne).map syC ++ ([(m, .inr (15, [.int nm, .int (nI (512 + 16 * u)), .int (nI (4 * (Lf / 4))), .int (nI gu), .int exi, .int (nI Ne), .ref nl]))] ++ (ALo nl b4 (ndL g n T Lf Im).length y4 ++ q4)))), ALo (r 2) b k y, q, RW G (r 3) (owF Fr u (some m) ((4 * (Lf / 4) + 15) / 16)), RO ro tp t p (.ref ia) ini exi (nI gu) la lb lc, IMG G ia (Lf / 4) (imgF U (Lf / 4)), Q] rfl ?_
    refine ex_icmp_ge d_ML_enter_253 (fun z => ?_) (fun z => ?_)
    · have z := le_n (a := k) z
      exact J281 (fun w => absurd w (by omega))
    have hlt := lt_n (a := k) z
    obtain ⟨vs, hmj, hvj⟩ := hmo j hlt
    refine ex_al d_ML_enter_256 rfl ?_
    refine ex_get1 0 fl_ML_26 d_ML_enter_257 rfl rfl ?_
    refine ex_il d_ML_enter_260 rfl ?_
    refine ex_cF [6, 7] hR (c_AL_getw l G (r 2) b k y (lsF ma k) q hw j hlt) (eg_invV 6 d_ML_enter_262 cd_AL_get cx_ML_118 rfl rfl List.mem_cons_self rfl rfl) cd_AL_get rfl rfl (Nat.le_of_ble_eq_true rfl) (by decide) (by decide) (by decide) (by decide) rfl ?_
    refine ex_eqS [LO x r f, MA G a (wrM M (512 + 16 * u) (imgF U (Lf / 4)) (Lf / 4)) (gdU P (512 + 16 * u) true gu) R pc tr md, SO (r 1) pl gn (nI (n + Ne)) m2, SPl G pl F2, SG gn, (PP ++ ((nsL T Lf Im (nI (512 + 16 * u)) m se Ne).map syC ++ ([(m, .inr (15, [.int nm, .int (nI (512 + 16 * u)), .int (nI (4 * (Lf / 4))), .int (nI gu), .int exi, .int (nI Ne), .ref nl]))] ++ (ALo nl b4 (ndL g n T Lf Im).length y4 ++ q4)))), ALo (r 2) b k y, q, RW G (r 3) (owF Fr u (some m) ((4 * (Lf / 4) + 15) / 16)), RO ro tp t p (.ref ia) ini exi (nI gu) la lb lc, IMG G ia (Lf / 4) (imgF U (Lf / 4)), Q] rfl ?_
    refine ex_eqT [.ref (ma j)] (by rw [lsF_lt _ hlt]; rfl) ?_
    refine ex_cast 5 d_ML_enter_265 kl_ML_30 (ci := 15) rfl rfl (List.mem_append_left _ hmj) ?_
    refine ex_get 5 fl_ML_149 d_ML_enter_268 rfl (List.mem_append_left _ hmj) hvj ?_
    refine ex_il d_ML_enter_271 rfl ?_
    refine ex_icmp_ge d_ML_enter_272 (fun w => ?_) (fun w => ?_)
    · exact J281 (fun _ => Int32.not_lt.mpr w)
    refine ex_inc d_ML_enter_275 rfl ?_
    refine ex_goto d_ML_enter_278 ?_
    exact ih hlt (fun i hi => by
      rcases Nat.lt_or_ge i j with w2 | w2
      · exact hlo i w2
      · rw [show i = j by omega]; exact Int32.not_le.mp w)
  have J148 : ∀ (b4 : Nat) (y4 : Int32) (q4 : va_W), ALw G b4 (ndL g n T Lf Im).length (lsF (nfL A (ndL g n T Lf Im)) (ndL g n T Lf Im).length) q4 → ∀ j, j ≤ Ne → ∀ (se : Nat → Nat) (F2 : Nat → Option Nat) (m2 : Int32), TB F2 gn (SL g sa A n ++ nsL T Lf Im (nI (512 + 16 * u)) m se j) → Ex G Γ mu_ML_enter 148 [some (.ref x), some (.ref ro), some (.int nm), some (.int (nI (512 + 16 * u))), some (.ref m), some (.int (nI j)), none] [] [LO x r f, MA G a (wrM M (512 + 16 * u) (imgF U (Lf / 4)) (Lf / 4)) (gdU P (512 + 16 * u) true gu) R pc tr md, SO (r 1) pl gn (nI (n + j)) m2, SPl G pl F2, SG gn, (PP ++ (nsL T Lf Im (nI (512 + 16 * u)) m se j).map syC), ALo (r 2) b k y, q, RW G (r 3) (owF Fr u (some m) ((4 * (Lf / 4) + 15) / 16)), RO ro tp t p (.ref ia) ini exi (nI gu) la lb lc, IMG G ia (Lf / 4) (imgF U (Lf / 4)), Q, [(m, .inr (15, [.int nm, .int (nI (512 + 16 * u)), .int (nI (4 * (Lf / 4))), .int (nI gu), .int exi, .int 0, .ref nl]))], ALo nl b4 (ndL g n T Lf Im).length y4, q4] (10 + j) (820 + 4 * j) := by
    intro b4 y4 q4 hw4
    refine eg_down Ne (fun j hj ih se F2 m2 hT2 => ?_)
    refine ex_il d_ML_enter_148 rfl ?_
    refine ex_al d_ML_enter_150 rfl ?_
    refine ex_get1 9 fl_ML_143 d_ML_enter_151 rfl rfl ?_
    refine ex_cF [11] hR (c_AL_size l G Q lb b6 Ne y6 ho6) (eg_invV 11 d_ML_enter_154 cd_AL_size cx_ML_114 rfl rfl ho6 rfl rfl) cd_AL_size rfl rfl (Nat.le_of_ble_eq_true rfl) (by decide) (by decide) (by omega) (by omega) rfl ?_
    refine ex_eqS [LO x r f, MA G a (wrM M (512 + 16 * u) (imgF U (Lf / 4)) (Lf / 4)) (gdU P (512 + 16 * u) true gu) R pc tr md, SO (r 1) pl gn (nI (n + j)) m2, SPl G pl F2, SG gn, (PP ++ (nsL T Lf Im (nI (512 + 16 * u)) m se j).map syC), ALo (r 2) b k y, q, RW G (r 3) (owF Fr u (some m) ((4 * (Lf / 4) + 15) / 16)), RO ro tp t p (.ref ia) ini exi (nI gu) la lb lc, IMG G ia (Lf / 4) (imgF U (Lf / 4)), Q, [(m, .inr (15, [.int nm, .int (nI (512 + 16 * u)), .int (nI (4 * (Lf / 4))), .int (nI gu), .int exi, .int 0, .ref nl]))], ALo nl b4 (ndL g n T Lf Im).length y4, q4] rfl ?_
    refine ex_icmp_ge d_ML_enter_157 (fun z => ?_) (fun z => ?_)
    · have z := le_n (a := Ne) z
      obtain rfl : Ne = j := by omega
      refine ex_al d_ML_enter_229 rfl ?_
      refine ex_al d_ML_enter_231 rfl ?_
      refine ex_get1 9 fl_ML_143 d_ML_enter_232 rfl rfl ?_
      refine ex_cF [11] hR (c_AL_size l G Q lb b6 Ne y6 ho6) (eg_invV 11 d_ML_enter_235 cd_AL_size cx_ML_114 rfl rfl ho6 rfl rfl) cd_AL_size rfl rfl (Nat.le_of_ble_eq_true rfl) (by decide) (by decide) (by omega) (by omega) rfl ?_
      refine ex_eqS [LO x r f, MA G a (wrM M (512 + 16 * u) (imgF U (Lf / 4)) (Lf / 4)) (gdU P (512 + 16 * u) true gu) R pc tr md, SO (r 1) pl gn (nI (n + Ne)) m2, SPl G pl F2, SG gn, (PP ++ (nsL T Lf Im (nI (512 + 16 * u)) m se Ne).map syC), ALo (r 2) b k y, q, RW G (r 3) (owF Fr u (some m) ((4 * (Lf / 4) + 15) / 16)), RO ro tp t p (.ref ia) ini exi (nI gu) la lb lc, IMG G ia (Lf / 4) (imgF U (Lf / 4)), Q, [(m, .inr (15, [.int nm, .int (nI (512 + 16 * u)), .int (nI (4 * (Lf / 4))), .int (nI gu), .int exi, .int 0, .ref nl]))], ALo nl b4 (ndL g n T Lf Im).length y4, q4] rfl ?_
      refine ex_put1 12 wl_ML_215 d_ML_enter_238 rfl rfl rfl (Nat.le_of_ble_eq_true rfl) ?_
      refine ex_re [LO x r f, MA G a (wrM M (512 + 16 * u) (imgF U (Lf / 4)) (Lf / 4)) (gdU P (512 + 16 * u) true gu) R pc tr md, SO (r 1) pl gn (nI (n + Ne)) m2, SPl G pl F2, SG gn, (PP ++ ((nsL T Lf Im (nI (512 + 16 * u)) m se Ne).map syC ++ ([(m, .inr (15, [.int nm, .int (nI (512 + 16 * u)), .int (nI (4 * (Lf / 4))), .int (nI gu), .int exi, .int (nI Ne), .ref nl]))] ++ (ALo nl b4 (ndL g n T Lf Im).length y4 ++ q4)))), ALo (r 2) b k y, q, RW G (r 3) (owF Fr u (some m) ((4 * (Lf / 4) + 15) / 16)), RO ro tp t p (.ref ia) ini exi (nI gu) la lb lc, IMG G ia (Lf / 4) (imgF U (Lf / 4)), Q] (eg_sub.trans (eg_sub.of (by simp [eg_pk])) (eg_pick [0, 1, 2, 3, 4, 5, 12, 13, 14, 6, 7, 8, 9, 10, 11] rfl rfl)) ?_
      refine ex_k d_ML_enter_241 ?_
      refine ex_is d_ML_enter_242 (Nat.le_of_ble_eq_true rfl) ?_
      exact ex_wide (by omega) (by omega) (J244 se F2 m2 b4 y4 q4 hT2 hw4 0 (Nat.zero_le _) (fun i hi => absurd hi (Nat.not_lt_zero _)))
    have hlt := lt_n (a := Ne) z
    have hme := hm6 j hlt
    refine ex_al d_ML_enter_160 rfl ?_
    refine ex_get1 0 fl_ML_19 d_ML_enter_161 rfl rfl ?_
    refine ex_new hR nw_ML_90 d_ML_enter_164 (by omega) (by omega) (fun e => ?_)
    refine ex_eqS [LO x r f, MA G a (wrM M (512 + 16 * u) (imgF U (Lf / 4)) (Lf / 4)) (gdU P (512 + 16 * u) true gu) R pc tr md, SO (r 1) pl gn (nI (n + j)) m2, SPl G pl F2, SG gn, (PP ++ (nsL T Lf Im (nI (512 + 16 * u)) m se j).map syC), ALo (r 2) b k y, q, RW G (r 3) (owF Fr u (some m) ((4 * (Lf / 4) + 15) / 16)), RO ro tp t p (.ref ia) ini exi (nI gu) la lb lc, IMG G ia (Lf / 4) (imgF U (Lf / 4)), Q, [(m, .inr (15, [.int nm, .int (nI (512 + 16 * u)), .int (nI (4 * (Lf / 4))), .int (nI gu), .int exi, .int 0, .ref nl]))], ALo nl b4 (ndL g n T Lf Im).length y4, q4, SG e] rfl ?_
    refine ex_dup d_ML_enter_167 rfl ?_
    refine ex_al d_ML_enter_168 rfl ?_
    refine ex_get1 9 fl_ML_143 d_ML_enter_169 rfl rfl ?_
    refine ex_il d_ML_enter_172 rfl ?_
    refine ex_cF [11] hR (c_AL_get l G Q lb b6 Ne _ y6 (lsF a6 Ne) ho6 (hq6 (by omega)).1 j hlt (hq6 (by omega)).2.1 (hq6 (by omega)).2.2) (eg_invV 11 d_ML_enter_174 cd_AL_get cx_ML_118 rfl rfl ho6 rfl rfl) cd_AL_get rfl rfl (Nat.le_of_ble_eq_true rfl) (by decide) (by decide) (by omega) (by omega) rfl ?_
    refine ex_eqS [LO x r f, MA G a (wrM M (512 + 16 * u) (imgF U (Lf / 4)) (Lf / 4)) (gdU P (512 + 16 * u) true gu) R pc tr md, SO (r 1) pl gn (nI (n + j)) m2, SPl G pl F2, SG gn, (PP ++ (nsL T Lf Im (nI (512 + 16 * u)) m se j).map syC), ALo (r 2) b k y, q, RW G (r 3) (owF Fr u (some m) ((4 * (Lf / 4) + 15) / 16)), RO ro tp t p (.ref ia) ini exi (nI gu) la lb lc, IMG G ia (Lf / 4) (imgF U (Lf / 4)), Q, [(m, .inr (15, [.int nm, .int (nI (512 + 16 * u)), .int (nI (4 * (Lf / 4))), .int (nI gu), .int exi, .int 0, .ref nl]))], ALo nl b4 (ndL g n T Lf Im).length y4, q4, SG e] rfl ?_
    refine ex_eqT [.ref (a6 j), .ref e, .ref e, .ref (r 1)] (by rw [lsF_lt _ hlt]; rfl) ?_
    refine ex_cast 11 d_ML_enter_177 kl_ML_146 (ci := 13) rfl rfl hme ?_
    refine ex_cF [11] hR (c_Ep_name l G Q (a6 j) (wdA T (exA Lf Im j)) (wdA T (exA Lf Im j + 4)) (wdA T (exA Lf Im j + 8)) hme) (eg_invV 11 d_ML_enter_180 cd_Ep_name cx_ML_148 rfl rfl hme rfl rfl) cd_Ep_name rfl rfl (Nat.le_of_ble_eq_true rfl) (by decide) (by decide) (by omega) (by omega) rfl ?_
    refine ex_eqS [LO x r f, MA G a (wrM M (512 + 16 * u) (imgF U (Lf / 4)) (Lf / 4)) (gdU P (512 + 16 * u) true gu) R pc tr md, SO (r 1) pl gn (nI (n + j)) m2, SPl G pl F2, SG gn, (PP ++ (nsL T Lf Im (nI (512 + 16 * u)) m se j).map syC), ALo (r 2) b k y, q, RW G (r 3) (owF Fr u (some m) ((4 * (Lf / 4) + 15) / 16)), RO ro tp t p (.ref ia) ini exi (nI gu) la lb lc, IMG G ia (Lf / 4) (imgF U (Lf / 4)), Q, [(m, .inr (15, [.int nm, .int (nI (512 + 16 * u)), .int (nI (4 * (Lf / 4))), .int (nI gu), .int exi, .int 0, .ref nl]))], ALo nl b4 (ndL g n T Lf Im).length y4, q4, SG e] rfl ?_
    refine ex_al d_ML_enter_183 rfl ?_
    refine ex_get1 9 fl_ML_143 d_ML_enter_184 rfl rfl ?_
    refine ex_il d_ML_enter_187 rfl ?_
    refine ex_cF [11] hR (c_AL_get l G Q lb b6 Ne _ y6 (lsF a6 Ne) ho6 (hq6 (by omega)).1 j hlt (hq6 (by omega)).2.1 (hq6 (by omega)).2.2) (eg_invV 11 d_ML_enter_189 cd_AL_get cx_ML_118 rfl rfl ho6 rfl rfl) cd_AL_get rfl rfl (Nat.le_of_ble_eq_true rfl) (by decide) (by decide) (by omega) (by omega) rfl ?_
    refine ex_eqS [LO x r f, MA G a (wrM M (512 + 16 * u) (imgF U (Lf / 4)) (Lf / 4)) (gdU P (512 + 16 * u) true gu) R pc tr md, SO (r 1) pl gn (nI (n + j)) m2, SPl G pl F2, SG gn, (PP ++ (nsL T Lf Im (nI (512 + 16 * u)) m se j).map syC), ALo (r 2) b k y, q, RW G (r 3) (owF Fr u (some m) ((4 * (Lf / 4) + 15) / 16)), RO ro tp t p (.ref ia) ini exi (nI gu) la lb lc, IMG G ia (Lf / 4) (imgF U (Lf / 4)), Q, [(m, .inr (15, [.int nm, .int (nI (512 + 16 * u)), .int (nI (4 * (Lf / 4))), .int (nI gu), .int exi, .int 0, .ref nl]))], ALo nl b4 (ndL g n T Lf Im).length y4, q4, SG e] rfl ?_
    refine ex_eqT [.ref (a6 j), .int (wdA T (exA Lf Im j)), .ref e, .ref e, .ref (r 1)] (by rw [lsF_lt _ hlt]; rfl) ?_
    refine ex_cast 11 d_ML_enter_192 kl_ML_146 (ci := 13) rfl rfl hme ?_
    refine ex_cF [11] hR (c_Ep_check l G Q (a6 j) (wdA T (exA Lf Im j)) (wdA T (exA Lf Im j + 4)) (wdA T (exA Lf Im j + 8)) hme) (eg_invV 11 d_ML_enter_195 cd_Ep_check cx_ML_213 rfl rfl hme rfl rfl) cd_Ep_check rfl rfl (Nat.le_of_ble_eq_true rfl) (by decide) (by decide) (by omega) (by omega) rfl ?_
    refine ex_eqS [LO x r f, MA G a (wrM M (512 + 16 * u) (imgF U (Lf / 4)) (Lf / 4)) (gdU P (512 + 16 * u) true gu) R pc tr md, SO (r 1) pl gn (nI (n + j)) m2, SPl G pl F2, SG gn, (PP ++ (nsL T Lf Im (nI (512 + 16 * u)) m se j).map syC), ALo (r 2) b k y, q, RW G (r 3) (owF Fr u (some m) ((4 * (Lf / 4) + 15) / 16)), RO ro tp t p (.ref ia) ini exi (nI gu) la lb lc, IMG G ia (Lf / 4) (imgF U (Lf / 4)), Q, [(m, .inr (15, [.int nm, .int (nI (512 + 16 * u)), .int (nI (4 * (Lf / 4))), .int (nI gu), .int exi, .int 0, .ref nl]))], ALo nl b4 (ndL g n T Lf Im).length y4, q4, SG e] rfl ?_
    refine ex_il d_ML_enter_198 rfl ?_
    refine ex_al d_ML_enter_199 rfl ?_
    refine ex_get1 9 fl_ML_143 d_ML_enter_200 rfl rfl ?_
    refine ex_il d_ML_enter_203 rfl ?_
    refine ex_cF [11] hR (c_AL_get l G Q lb b6 Ne _ y6 (lsF a6 Ne) ho6 (hq6 (by omega)).1 j hlt (hq6 (by omega)).2.1 (hq6 (by omega)).2.2) (eg_invV 11 d_ML_enter_205 cd_AL_get cx_ML_118 rfl rfl ho6 rfl rfl) cd_AL_get rfl rfl (Nat.le_of_ble_eq_true rfl) (by decide) (by decide) (by omega) (by omega) rfl ?_
    refine ex_eqS [LO x r f, MA G a (wrM M (512 + 16 * u) (imgF U (Lf / 4)) (Lf / 4)) (gdU P (512 + 16 * u) true gu) R pc tr md, SO (r 1) pl gn (nI (n + j)) m2, SPl G pl F2, SG gn, (PP ++ (nsL T Lf Im (nI (512 + 16 * u)) m se j).map syC), ALo (r 2) b k y, q, RW G (r 3) (owF Fr u (some m) ((4 * (Lf / 4) + 15) / 16)), RO ro tp t p (.ref ia) ini exi (nI gu) la lb lc, IMG G ia (Lf / 4) (imgF U (Lf / 4)), Q, [(m, .inr (15, [.int nm, .int (nI (512 + 16 * u)), .int (nI (4 * (Lf / 4))), .int (nI gu), .int exi, .int 0, .ref nl]))], ALo nl b4 (ndL g n T Lf Im).length y4, q4, SG e] rfl ?_
    refine ex_eqT [.ref (a6 j), .int (nI (512 + 16 * u)), .int (wdA T (exA Lf Im j + 4)), .int (wdA T (exA Lf Im j)), .ref e, .ref e, .ref (r 1)] (by rw [lsF_lt _ hlt]; rfl) ?_
    refine ex_cast 11 d_ML_enter_208 kl_ML_146 (ci := 13) rfl rfl hme ?_
    refine ex_cF [11] hR (c_Ep_offset l G Q (a6 j) (wdA T (exA Lf Im j)) (wdA T (exA Lf Im j + 4)) (wdA T (exA Lf Im j + 8)) hme) (eg_invV 11 d_ML_enter_211 cd_Ep_offset cx_ML_214 rfl rfl hme rfl rfl) cd_Ep_offset rfl rfl (Nat.le_of_ble_eq_true rfl) (by decide) (by decide) (by omega) (by omega) rfl ?_
    refine ex_eqS [LO x r f, MA G a (wrM M (512 + 16 * u) (imgF U (Lf / 4)) (Lf / 4)) (gdU P (512 + 16 * u) true gu) R pc tr md, SO (r 1) pl gn (nI (n + j)) m2, SPl G pl F2, SG gn, (PP ++ (nsL T Lf Im (nI (512 + 16 * u)) m se j).map syC), ALo (r 2) b k y, q, RW G (r 3) (owF Fr u (some m) ((4 * (Lf / 4) + 15) / 16)), RO ro tp t p (.ref ia) ini exi (nI gu) la lb lc, IMG G ia (Lf / 4) (imgF U (Lf / 4)), Q, [(m, .inr (15, [.int nm, .int (nI (512 + 16 * u)), .int (nI (4 * (Lf / 4))), .int (nI gu), .int exi, .int 0, .ref nl]))], ALo nl b4 (ndL g n T Lf Im).length y4, q4, SG e] rfl ?_
    refine ex_iadd d_ML_enter_214 ?_
    refine ex_al d_ML_enter_215 rfl ?_
    refine ex_cV [15] hR (c_Sy_init l G e (wdA T (exA Lf Im j)) (wdA T (exA Lf Im j + 4)) ((nI (512 + 16 * u)) + wdA T (exA Lf Im j + 8)) (some m)) (eg_invI d_ML_enter_217 cd_Sy_init rfl rfl tw_216 cx_ML_92 rfl rfl) cd_Sy_init rfl rfl (Nat.le_of_ble_eq_true rfl) (by decide) (by decide) (by omega) (by omega) rfl ?_
    refine ex_eqS [LO x r f, MA G a (wrM M (512 + 16 * u) (imgF U (Lf / 4)) (Lf / 4)) (gdU P (512 + 16 * u) true gu) R pc tr md, SO (r 1) pl gn (nI (n + j)) m2, SPl G pl F2, SG gn, (PP ++ (nsL T Lf Im (nI (512 + 16 * u)) m se j).map syC), ALo (r 2) b k y, q, RW G (r 3) (owF Fr u (some m) ((4 * (Lf / 4) + 15) / 16)), RO ro tp t p (.ref ia) ini exi (nI gu) la lb lc, IMG G ia (Lf / 4) (imgF U (Lf / 4)), Q, [(m, .inr (15, [.int nm, .int (nI (512 + 16 * u)), .int (nI (4 * (Lf / 4))), .int (nI gu), .int exi, .int 0, .ref nl]))], ALo nl b4 (ndL g n T Lf Im).length y4, q4, [syC (e, wdA T (exA Lf Im j), wdA T (exA Lf Im j + 4), (nI (512 + 16 * u)) + wdA T (exA Lf Im j + 8), some m)]] rfl ?_
    refine ex_nd (fun hnd => ?_)
    have hPSj : ∀ e' ∈ (SL g sa A n ++ nsL T Lf Im (nI (512 + 16 * u)) m se j), syC e' ∈ (PP ++ (nsL T Lf Im (nI (512 + 16 * u)) m se j).map syC) := fun e' he' => by
      rcases List.mem_append.mp he' with w | w
      · exact List.mem_append_left _ (hPS e' w)
      · exact List.mem_append_right _ (List.mem_map.mpr ⟨e', w, rfl⟩)
    have hLj : ((SL g sa A n ++ nsL T Lf Im (nI (512 + 16 * u)) m se j)).length = n + j := by rw [List.length_append, SL_len, nsL_len]
    obtain ⟨hg1, hg2⟩ : e ≠ gn ∧ e ∉ ((SL g sa A n ++ nsL T Lf Im (nI (512 + 16 * u)) m se j)).map (fun e => e.1) := by
      refine ⟨fun w => ?_, fun w => ?_⟩
      · exact nd_in hnd (i := 4) (j := 15) (by decide) rfl rfl List.mem_cons_self List.mem_cons_self w.symm
      · obtain ⟨e', he', w⟩ := List.mem_map.mp w
        exact nd_in hnd (i := 5) (j := 15) (by decide) rfl rfl (hPSj e' he') List.mem_cons_self w
    refine ex_re [LO x r f, MA G a (wrM M (512 + 16 * u) (imgF U (Lf / 4)) (Lf / 4)) (gdU P (512 + 16 * u) true gu) R pc tr md, SO (r 1) pl gn (nI (n + j)) m2, SPl G pl F2, SG gn, (PP ++ (nsL T Lf Im (nI (512 + 16 * u)) m (va_up se j e) (j + 1)).map syC), ALo (r 2) b k y, q, RW G (r 3) (owF Fr u (some m) ((4 * (Lf / 4) + 15) / 16)), RO ro tp t p (.ref ia) ini exi (nI gu) la lb lc, IMG G ia (Lf / 4) (imgF U (Lf / 4)), Q, [(m, .inr (15, [.int nm, .int (nI (512 + 16 * u)), .int (nI (4 * (Lf / 4))), .int (nI gu), .int exi, .int 0, .ref nl]))], ALo nl b4 (ndL g n T Lf Im).length y4, q4] (eg_sub.trans (eg_sub.of (by rw [nsL_s]; simp [eg_pk])) (eg_pick [0, 1, 2, 3, 4, 5, 15, 6, 7, 8, 9, 10, 11, 12, 13, 14] rfl rfl)) ?_
    refine ex_call [2, 3, 4, 5] hR (c_Ss_add l G (r 1) pl gn (nI (n + j)) m2 F2 (SL g sa A n ++ nsL T Lf Im (nI (512 + 16 * u)) m se j) (PP ++ (nsL T Lf Im (nI (512 + 16 * u)) m (va_up se j e) (j + 1)).map syC) hT2 (fun e' he' => by rw [nsL_s, List.map_append, ← List.append_assoc]; exact List.mem_append_left _ (hPSj e' he')) (e, wdA T (exA Lf Im j), wdA T (exA Lf Im j + 4), (nI (512 + 16 * u)) + wdA T (exA Lf Im j + 8), some m) (by rw [nsL_s, List.map_append, ← List.append_assoc]; exact List.mem_append_right _ List.mem_cons_self) (by omega) hg1 hg2) (eg_invV 2 d_ML_enter_220 cd_Ss_add cx_ML_95 rfl rfl List.mem_cons_self rfl rfl) cd_Ss_add rfl rfl (Nat.le_of_ble_eq_true rfl) (by decide) (by decide) (by omega) (by omega) (fun v S1 hK1 => ?_) (fun E S1 hK1 => ?_)
    rotate_left
    · obtain ⟨F3, m3, h1, rfl, hT3⟩ := hK1
      cases h1
    obtain ⟨F3, m3, h1, rfl, hT3⟩ := hK1
    cases h1
    refine ex_eqS [LO x r f, MA G a (wrM M (512 + 16 * u) (imgF U (Lf / 4)) (Lf / 4)) (gdU P (512 + 16 * u) true gu) R pc tr md, SO (r 1) pl gn (nI (n + j) + 1) m3, SPl G pl F3, SG gn, (PP ++ (nsL T Lf Im (nI (512 + 16 * u)) m (va_up se j e) (j + 1)).map syC), ALo (r 2) b k y, q, RW G (r 3) (owF Fr u (some m) ((4 * (Lf / 4) + 15) / 16)), RO ro tp t p (.ref ia) ini exi (nI gu) la lb lc, IMG G ia (Lf / 4) (imgF U (Lf / 4)), Q, [(m, .inr (15, [.int nm, .int (nI (512 + 16 * u)), .int (nI (4 * (Lf / 4))), .int (nI gu), .int exi, .int 0, .ref nl]))], ALo nl b4 (ndL g n T Lf Im).length y4, q4] rfl ?_
    rw [nI_1]
    rw [List.append_assoc, ← nsL_s] at hT3
    refine ex_inc d_ML_enter_223 rfl ?_
    refine ex_goto d_ML_enter_226 ?_
    exact ex_wide (by omega) (by omega) (ih hlt (va_up se j e) F3 m3 hT3)
  have J74 : ∀ j, j ≤ Im → ∀ (b4 : Nat) (y4 : Int32) (q4 : va_W), ALw G b4 (ndL g n T Lf j).length (lsF (nfL A (ndL g n T Lf j)) (ndL g n T Lf j).length) q4 → Ex G Γ mu_ML_enter 74 [some (.ref x), some (.ref ro), some (.int nm), some (.int (nI (512 + 16 * u))), some (.ref m), some (.int (nI j)), none] [] [LO x r f, MA G a (wrM M (512 + 16 * u) (imgF U (Lf / 4)) (Lf / 4)) (gdU P (512 + 16 * u) true gu) R pc tr md, SO (r 1) pl gn (nI n) marks, SPl G pl F, SG gn, PP, ALo (r 2) b k y, q, RW G (r 3) (owF Fr u (some m) ((4 * (Lf / 4) + 15) / 16)), RO ro tp t p (.ref ia) ini exi (nI gu) la lb lc, IMG G ia (Lf / 4) (imgF U (Lf / 4)), Q, [(m, .inr (15, [.int nm, .int (nI (512 + 16 * u)), .int (nI (4 * (Lf / 4))), .int (nI gu), .int exi, .int 0, .ref nl]))], ALo nl b4 (ndL g n T Lf j).length y4, q4] (2 + j) (10 + 100 * j) := by
    refine eg_down Im (fun j hj ih b4 y4 q4 hw4 => ?_)
    refine ex_il d_ML_enter_74 rfl ?_
    refine ex_al d_ML_enter_76 rfl ?_
    refine ex_get1 9 fl_ML_125 d_ML_enter_77 rfl rfl ?_
    refine ex_cF [11] hR (c_AL_size l G Q la b5 Im y5 ho5) (eg_invV 11 d_ML_enter_80 cd_AL_size cx_ML_114 rfl rfl ho5 rfl rfl) cd_AL_size rfl rfl (Nat.le_of_ble_eq_true rfl) (by decide) (by decide) (by omega) (by omega) rfl ?_
    refine ex_eqS [LO x r f, MA G a (wrM M (512 + 16 * u) (imgF U (Lf / 4)) (Lf / 4)) (gdU P (512 + 16 * u) true gu) R pc tr md, SO (r 1) pl gn (nI n) marks, SPl G pl F, SG gn, PP, ALo (r 2) b k y, q, RW G (r 3) (owF Fr u (some m) ((4 * (Lf / 4) + 15) / 16)), RO ro tp t p (.ref ia) ini exi (nI gu) la lb lc, IMG G ia (Lf / 4) (imgF U (Lf / 4)), Q, [(m, .inr (15, [.int nm, .int (nI (512 + 16 * u)), .int (nI (4 * (Lf / 4))), .int (nI gu), .int exi, .int 0, .ref nl]))], ALo nl b4 (ndL g n T Lf j).length y4, q4] rfl ?_
    refine ex_icmp_ge d_ML_enter_83 (fun z => ?_) (fun z => ?_)
    · have z := le_n (a := Im) z
      obtain rfl : Im = j := by omega
      refine ex_k d_ML_enter_145 ?_
      refine ex_is d_ML_enter_146 (Nat.le_of_ble_eq_true rfl) ?_
      refine ex_eqS [LO x r f, MA G a (wrM M (512 + 16 * u) (imgF U (Lf / 4)) (Lf / 4)) (gdU P (512 + 16 * u) true gu) R pc tr md, SO (r 1) pl gn (nI (n + 0)) marks, SPl G pl F, SG gn, (PP ++ (nsL T Lf Im (nI (512 + 16 * u)) m (fun _ => 0) 0).map syC), ALo (r 2) b k y, q, RW G (r 3) (owF Fr u (some m) ((4 * (Lf / 4) + 15) / 16)), RO ro tp t p (.ref ia) ini exi (nI gu) la lb lc, IMG G ia (Lf / 4) (imgF U (Lf / 4)), Q, [(m, .inr (15, [.int nm, .int (nI (512 + 16 * u)), .int (nI (4 * (Lf / 4))), .int (nI gu), .int exi, .int 0, .ref nl]))], ALo nl b4 (ndL g n T Lf Im).length y4, q4] (by simp [nsL]) ?_
      exact ex_wide (by omega) (by omega) (J148 b4 y4 q4 hw4 0 (Nat.zero_le _) (fun _ => 0) F marks (by simpa [nsL] using hT))
    have hlt := lt_n (a := Im) z
    have hm5j := hm5 j hlt
    obtain ⟨s, hs⟩ := hfd j hlt
    have hsn := (tfind_lt hs).1
    have hsm := hPS _ (SL_in (g := g) (sa := sa) (A := A) hsn)
    have hlen := ndL_len g n T Lf j
    have hst : ndL g n T Lf (j + 1) = if g 7 s < 0 then ndL g n T Lf j else if (g 7 s).toNatClampNeg ∈ ndL g n T Lf j then ndL g n T Lf j else ndL g n T Lf j ++ [(g 7 s).toNatClampNeg] := by rw [ndL, hs]; rfl
    have J139 : ∀ (v6 : Option Value) (b7 : Nat) (y7 : Int32) (q7 : va_W), ALw G b7 (ndL g n T Lf (j + 1)).length (lsF (nfL A (ndL g n T Lf (j + 1))) (ndL g n T Lf (j + 1)).length) q7 → Ex G Γ mu_ML_enter 139 [some (.ref x), some (.ref ro), some (.int nm), some (.int (nI (512 + 16 * u))), some (.ref m), some (.int (nI j)), v6] [] [LO x r f, MA G a (wrM M (512 + 16 * u) (imgF U (Lf / 4)) (Lf / 4)) (gdU P (512 + 16 * u) true gu) R pc tr md, SO (r 1) pl gn (nI n) marks, SPl G pl F, SG gn, PP, ALo (r 2) b k y, q, RW G (r 3) (owF Fr u (some m) ((4 * (Lf / 4) + 15) / 16)), RO ro tp t p (.ref ia) ini exi (nI gu) la lb lc, IMG G ia (Lf / 4) (imgF U (Lf / 4)), Q, [(m, .inr (15, [.int nm, .int (nI (512 + 16 * u)), .int (nI (4 * (Lf / 4))), .int (nI gu), .int exi, .int 0, .ref nl]))], ALo nl b7 (ndL g n T Lf (j + 1)).length y7, q7] (2 + (j + 1)) (10 + 100 * (j + 1)) := by
      intro v6 b7 y7 q7 hw7
      refine ex_inc d_ML_enter_139 rfl ?_
      refine ex_goto d_ML_enter_142 ?_
      refine ex_forget [true, true, true, true, true, true, false] ?_
      exact ih hlt b7 y7 q7 hw7
    refine ex_al d_ML_enter_86 rfl ?_
    refine ex_get1 0 fl_ML_19 d_ML_enter_87 rfl rfl ?_
    refine ex_al d_ML_enter_90 rfl ?_
    refine ex_get1 9 fl_ML_125 d_ML_enter_91 rfl rfl ?_
    refine ex_il d_ML_enter_94 rfl ?_
    refine ex_cF [11] hR (c_AL_get l G Q la b5 Im _ y5 (lsF a5 Im) ho5 (hq5 (by omega)).1 j hlt (hq5 (by omega)).2.1 (hq5 (by omega)).2.2) (eg_invV 11 d_ML_enter_96 cd_AL_get cx_ML_118 rfl rfl ho5 rfl rfl) cd_AL_get rfl rfl (Nat.le_of_ble_eq_true rfl) (by decide) (by decide) (by omega) (by omega) rfl ?_
    refine ex_eqS [LO x r f, MA G a (wrM M (512 + 16 * u) (imgF U (Lf / 4)) (Lf / 4)) (gdU P (512 + 16 * u) true gu) R pc tr md, SO (r 1) pl gn (nI n) marks, SPl G pl F, SG gn, PP, ALo (r 2) b k y, q, RW G (r 3) (owF Fr u (some m) ((4 * (Lf / 4) + 15) / 16)), RO ro tp t p (.ref ia) ini exi (nI gu) la lb lc, IMG G ia (Lf / 4) (imgF U (Lf / 4)), Q, [(m, .inr (15, [.int nm, .int (nI (512 + 16 * u)), .int (nI (4 * (Lf / 4))), .int (nI gu), .int exi, .int 0, .ref nl]))], ALo nl b4 (ndL g n T Lf j).length y4, q4] rfl ?_
    refine ex_eqT [.ref (a5 j), .ref (r 1)] (by rw [lsF_lt _ hlt]; rfl) ?_
    refine ex_cast 11 d_ML_enter_99 kl_ML_130 (ci := 12) rfl rfl hm5j ?_
    refine ex_cF [11] hR (c_Im_name l G Q (a5 j) (wdA T (imA Lf j)) (wdA T (imA Lf j + 4)) hm5j) (eg_invV 11 d_ML_enter_102 cd_Im_name cx_ML_132 rfl rfl hm5j rfl rfl) cd_Im_name rfl rfl (Nat.le_of_ble_eq_true rfl) (by decide) (by decide) (by omega) (by omega) rfl ?_
    refine ex_eqS [LO x r f, MA G a (wrM M (512 + 16 * u) (imgF U (Lf / 4)) (Lf / 4)) (gdU P (512 + 16 * u) true gu) R pc tr md, SO (r 1) pl gn (nI n) marks, SPl G pl F, SG gn, PP, ALo (r 2) b k y, q, RW G (r 3) (owF Fr u (some m) ((4 * (Lf / 4) + 15) / 16)), RO ro tp t p (.ref ia) ini exi (nI gu) la lb lc, IMG G ia (Lf / 4) (imgF U (Lf / 4)), Q, [(m, .inr (15, [.int nm, .int (nI (512 + 16 * u)), .int (nI (4 * (Lf / 4))), .int (nI gu), .int exi, .int 0, .ref nl]))], ALo nl b4 (ndL g n T Lf j).length y4, q4] rfl ?_
    refine ex_cF [2, 3, 4, 5] hR (c_Ss_find l G (r 1) pl gn (nI n) marks F (SL g sa A n) PP hT hPS hN (wdA T (imA Lf j))) (eg_invV 2 d_ML_enter_105 cd_Ss_find cx_ML_83 rfl rfl List.mem_cons_self rfl rfl) cd_Ss_find rfl rfl (Nat.le_of_ble_eq_true rfl) (by decide) (by decide) (by omega) (by omega) rfl ?_
    refine ex_eqS [LO x r f, MA G a (wrM M (512 + 16 * u) (imgF U (Lf / 4)) (Lf / 4)) (gdU P (512 + 16 * u) true gu) R pc tr md, SO (r 1) pl gn (nI n) marks, SPl G pl F, SG gn, PP, ALo (r 2) b k y, q, RW G (r 3) (owF Fr u (some m) ((4 * (Lf / 4) + 15) / 16)), RO ro tp t p (.ref ia) ini exi (nI gu) la lb lc, IMG G ia (Lf / 4) (imgF U (Lf / 4)), Q, [(m, .inr (15, [.int nm, .int (nI (512 + 16 * u)), .int (nI (4 * (Lf / 4))), .int (nI gu), .int exi, .int 0, .ref nl]))], ALo nl b4 (ndL g n T Lf j).length y4, q4] rfl ?_
    refine ex_eqT [.ref (sa s)] (by rw [sfind_SL, hs]; rfl) ?_
    refine ex_get 5 fl_ML_200 d_ML_enter_108 rfl hsm rfl ?_
    by_cases hneg : g 7 s < 0
    · refine ex_eqT [va_rf none] (by show [va_rf (ow A (g 7 s))] = _; rw [ow, if_pos hneg]) ?_
      refine ex_asq d_ML_enter_111 (Nat.le_of_ble_eq_true rfl) ?_
      refine ex_alq (r := none) d_ML_enter_113 rfl ?_
      refine ex_ifnull (r := none) d_ML_enter_115 (fun _ => ?_) (fun a9 z => absurd z (by simp))
      rw [if_pos hneg] at hst
      refine ex_wide (n' := 2 + (j + 1)) (k' := 10 + 100 * (j + 1)) (by omega) (by omega) ?_
      rw [← hst] at hw4 ⊢
      exact J139 _ b4 y4 q4 hw4
    refine ex_eqT [.ref (A (g 7 s).toNatClampNeg)] (by show [va_rf (ow A (g 7 s))] = _; rw [ow, if_neg hneg]; rfl) ?_
    rw [if_neg hneg] at hst
    obtain ⟨vso, hmo6⟩ := hown s hsn hneg
    refine ex_as d_ML_enter_111 (Nat.le_of_ble_eq_true rfl) ?_
    refine ex_al d_ML_enter_113 rfl ?_
    refine ex_ifnull (r := some (A (g 7 s).toNatClampNeg)) d_ML_enter_115 (fun z => absurd z (by simp)) (fun a9 z => ?_)
    clear z
    refine ex_al d_ML_enter_118 rfl ?_
    refine ex_al d_ML_enter_120 rfl ?_
    refine ex_cF [12, 13, 14] hR (c_Mo_needs3 l G m nl b4 (ndL g n T Lf j).length (A (g 7 s).toNatClampNeg) y4 (lsF (nfL A (ndL g n T Lf j)) (ndL g n T Lf j).length) q4 [.int nm, .int (nI (512 + 16 * u)), .int (nI (4 * (Lf / 4))), .int (nI gu), .int exi, .int 0, .ref nl] rfl (by omega) hw4) (eg_invV 12 d_ML_enter_122 cd_Mo_needs cx_ML_204 rfl rfl List.mem_cons_self rfl rfl) cd_Mo_needs rfl rfl (Nat.le_of_ble_eq_true rfl) (by decide) (by decide) (by omega) (by omega) rfl ?_
    refine ex_eqS [LO x r f, MA G a (wrM M (512 + 16 * u) (imgF U (Lf / 4)) (Lf / 4)) (gdU P (512 + 16 * u) true gu) R pc tr md, SO (r 1) pl gn (nI n) marks, SPl G pl F, SG gn, PP, ALo (r 2) b k y, q, RW G (r 3) (owF Fr u (some m) ((4 * (Lf / 4) + 15) / 16)), RO ro tp t p (.ref ia) ini exi (nI gu) la lb lc, IMG G ia (Lf / 4) (imgF U (Lf / 4)), Q, [(m, .inr (15, [.int nm, .int (nI (512 + 16 * u)), .int (nI (4 * (Lf / 4))), .int (nI gu), .int exi, .int 0, .ref nl]))], ALo nl b4 (ndL g n T Lf j).length y4, q4] rfl ?_
    rw [nfL_any (fun w hw0 e => hAi j hlt w hw0 s hs hneg e)]
    by_cases hin : (g 7 s).toNatClampNeg ∈ ndL g n T Lf j
    · rw [decide_eq_true hin]
      refine ex_if_ne d_ML_enter_125 (fun _ => ?_) (fun z => absurd z (by decide))
      rw [if_pos hin] at hst
      refine ex_wide (n' := 2 + (j + 1)) (k' := 10 + 100 * (j + 1)) (by omega) (by omega) ?_
      rw [← hst] at hw4 ⊢
      exact J139 _ b4 y4 q4 hw4
    rw [decide_eq_false hin]
    rw [if_neg hin] at hst
    refine ex_if_ne d_ML_enter_125 (fun z => absurd rfl z) (fun _ => ?_)
    refine ex_al d_ML_enter_128 rfl ?_
    refine ex_get1 12 fl_ML_208 d_ML_enter_130 rfl rfl ?_
    refine ex_al d_ML_enter_133 rfl ?_
    refine ex_call [13, 14, 5] hR (c_AL_add1 l G 15 7 "ModuleLoader$Module" F_Mo rfl ca_Mo PP nl b4 (ndL g n T Lf j).length y4 (lsF (nfL A (ndL g n T Lf j)) (ndL g n T Lf j).length) q4 hw4 (by omega) (lsF_n _ _) (lsF_E (fun i hi => hnin j (by omega) i hi)) (A (g 7 s).toNatClampNeg) vso hmo6) (eg_invV 13 d_ML_enter_135 cd_AL_add1 cx_ML_210 rfl rfl List.mem_cons_self rfl rfl) cd_AL_add1 rfl rfl (Nat.le_of_ble_eq_true rfl) (by decide) (by decide) (by omega) (by omega) (fun v S1 hK1 => ?_) (fun E S1 hK1 => ?_)
    rotate_left
    · obtain ⟨b7, q7, h1, rfl, hw7⟩ := hK1
      cases h1
    obtain ⟨b7, q7, h1, rfl, hw7⟩ := hK1
    cases h1
    rw [nfL_s, ← hst] at hw7
    rw [show (ndL g n T Lf j).length + 1 = (ndL g n T Lf (j + 1)).length by rw [hst, List.length_append, List.length_singleton]] at *
    refine ex_eqS [LO x r f, MA G a (wrM M (512 + 16 * u) (imgF U (Lf / 4)) (Lf / 4)) (gdU P (512 + 16 * u) true gu) R pc tr md, SO (r 1) pl gn (nI n) marks, SPl G pl F, SG gn, PP, ALo (r 2) b k y, q, RW G (r 3) (owF Fr u (some m) ((4 * (Lf / 4) + 15) / 16)), RO ro tp t p (.ref ia) ini exi (nI gu) la lb lc, IMG G ia (Lf / 4) (imgF U (Lf / 4)), Q, [(m, .inr (15, [.int nm, .int (nI (512 + 16 * u)), .int (nI (4 * (Lf / 4))), .int (nI gu), .int exi, .int 0, .ref nl]))], ALo nl b7 (ndL g n T Lf (j + 1)).length (y4 + 1), q7] rfl ?_
    refine ex_pop d_ML_enter_138 rfl ?_
    refine ex_wide (n' := 2 + (j + 1)) (k' := 10 + 100 * (j + 1)) (by omega) (by omega) ?_
    exact J139 _ b7 (y4 + 1) q7 hw7
  have L23 : ∀ j, j ≤ Lf / 4 → Ex G Γ mu_ML_enter 23 [some (.ref x), some (.ref ro), some (.int nm), some (.int (nI (512 + 16 * u))), some (.ref m), some (.int (nI j)), none] [] [LO x r f, MA G a (wrM M (512 + 16 * u) (imgF U (Lf / 4)) j) P R pc tr md, SO (r 1) pl gn (nI n) marks, SPl G pl F, SG gn, PP, ALo (r 2) b k y, q, RW G (r 3) (owF Fr u (some m) ((4 * (Lf / 4) + 15) / 16)), RO ro tp t p (.ref ia) ini exi (nI gu) la lb lc, IMG G ia (Lf / 4) (imgF U (Lf / 4)), Q, [(m, .inr (15, [.int nm, .int (nI (512 + 16 * u)), .int (nI (4 * (Lf / 4))), .int (nI gu), .int exi, .int 0, .ref nl]))], ALo nl G.2.2.2.1 0 0] 2 10 := by
    refine eg_down (Lf / 4) (fun j hj ih => ?_)
    refine ex_il d_ML_enter_23 rfl ?_
    refine ex_al d_ML_enter_25 rfl ?_
    refine ex_get1 9 fl_ML_175 d_ML_enter_26 rfl rfl ?_
    refine ex_alen 10 d_ML_enter_29 rfl List.mem_cons_self rfl ?_
    refine ex_icmp_ge d_ML_enter_30 (fun z => ?_) (fun z => ?_)
    · have z := le_n (a := Lf / 4) z
      obtain rfl : j = Lf / 4 := by omega
      refine ex_al d_ML_enter_60 rfl ?_
      refine ex_il d_ML_enter_61 rfl ?_
      refine ex_al d_ML_enter_62 rfl ?_
      refine ex_get1 12 fl_ML_198 d_ML_enter_64 rfl rfl ?_
      refine ex_k d_ML_enter_67 ?_
      refine ex_cV [0, 1] hR (c_ML_guard l G x r f a (wrM M (512 + 16 * u) (imgF U (Lf / 4)) (Lf / 4)) P R pc tr md hr0 (512 + 16 * u) gu true (by omega)) (eg_invV 0 d_ML_enter_68 cd_ML_guard cx_ML_72 rfl rfl List.mem_cons_self rfl rfl) cd_ML_guard rfl rfl (Nat.le_of_ble_eq_true rfl) (by decide) (by decide) (by decide) (by decide) rfl ?_
      refine ex_eqS [LO x r f, MA G a (wrM M (512 + 16 * u) (imgF U (Lf / 4)) (Lf / 4)) (gdU P (512 + 16 * u) true gu) R pc tr md, SO (r 1) pl gn (nI n) marks, SPl G pl F, SG gn, PP, ALo (r 2) b k y, q, RW G (r 3) (owF Fr u (some m) ((4 * (Lf / 4) + 15) / 16)), RO ro tp t p (.ref ia) ini exi (nI gu) la lb lc, IMG G ia (Lf / 4) (imgF U (Lf / 4)), Q, [(m, .inr (15, [.int nm, .int (nI (512 + 16 * u)), .int (nI (4 * (Lf / 4))), .int (nI gu), .int exi, .int 0, .ref nl]))], ALo nl G.2.2.2.1 0 0] rfl ?_
      refine ex_k d_ML_enter_71 ?_
      refine ex_is d_ML_enter_72 (Nat.le_of_ble_eq_true rfl) ?_
      refine ex_re [LO x r f, MA G a (wrM M (512 + 16 * u) (imgF U (Lf / 4)) (Lf / 4)) (gdU P (512 + 16 * u) true gu) R pc tr md, SO (r 1) pl gn (nI n) marks, SPl G pl F, SG gn, PP, ALo (r 2) b k y, q, RW G (r 3) (owF Fr u (some m) ((4 * (Lf / 4) + 15) / 16)), RO ro tp t p (.ref ia) ini exi (nI gu) la lb lc, IMG G ia (Lf / 4) (imgF U (Lf / 4)), Q, [(m, .inr (15, [.int nm, .int (nI (512 + 16 * u)), .int (nI (4 * (Lf / 4))), .int (nI gu), .int exi, .int 0, .ref nl]))], ALo nl G.2.2.2.1 (ndL g n T Lf 0).length 0, []] (eg_sub.of (by simp [ndL])) ?_
      exact J74 0 (Nat.zero_le _) G.2.2.2.1 0 [] (Or.inl ⟨rfl, rfl, rfl⟩)
    have hlt := lt_n (a := Lf / 4) z
    refine ex_al d_ML_enter_33 rfl ?_
    refine lg 0 fl_ML_10 d_ML_enter_34 rfl rfl ?_
    rw [hr0]
    refine ex_il d_ML_enter_37 rfl ?_
    refine ex_k d_ML_enter_38 ?_
    refine ex_il d_ML_enter_39 rfl ?_
    refine ex_imul d_ML_enter_41 ?_
    refine ex_iadd d_ML_enter_42 ?_
    refine ex_eqT [.int (nI (512 + 16 * u + 4 * j)), .ref (a 0)] (by rw [← nI_add (512 + 16 * u), ← pk_mul]; rfl) ?_
    refine ex_k d_ML_enter_43 ?_
    refine ex_al d_ML_enter_44 rfl ?_
    refine ex_get1 9 fl_ML_175 d_ML_enter_45 rfl rfl ?_
    refine ex_il d_ML_enter_48 rfl ?_
    refine ex_iald1 10 d_ML_enter_50 rfl (ix_e hlt rfl (by omega)) ?_
    refine ex_cV [1] hR (c_Ma_write l G a (wrM M (512 + 16 * u) (imgF U (Lf / 4)) j) P R pc tr md (512 + 16 * u + 4 * j) 4 ((imgF U (Lf / 4)) j) (by decide) (by omega)) (eg_invV 1 d_ML_enter_51 cd_Ma_write cx_ML_64 rfl rfl List.mem_cons_self rfl rfl) cd_Ma_write rfl rfl (Nat.le_of_ble_eq_true rfl) (by decide) (by decide) (by decide) (by decide) rfl ?_
    refine ex_eqS [LO x r f, MA G a (wrM M (512 + 16 * u) (imgF U (Lf / 4)) (j + 1)) P R pc tr md, SO (r 1) pl gn (nI n) marks, SPl G pl F, SG gn, PP, ALo (r 2) b k y, q, RW G (r 3) (owF Fr u (some m) ((4 * (Lf / 4) + 15) / 16)), RO ro tp t p (.ref ia) ini exi (nI gu) la lb lc, IMG G ia (Lf / 4) (imgF U (Lf / 4)), Q, [(m, .inr (15, [.int nm, .int (nI (512 + 16 * u)), .int (nI (4 * (Lf / 4))), .int (nI gu), .int exi, .int 0, .ref nl]))], ALo nl G.2.2.2.1 0 0] rfl ?_
    refine ex_inc d_ML_enter_54 rfl ?_
    refine ex_goto d_ML_enter_57 ?_
    exact ih hlt
  refine ex_as d_ML_enter_10 (Nat.le_of_ble_eq_true rfl) ?_
  refine ex_al d_ML_enter_12 rfl ?_
  refine ex_al d_ML_enter_13 rfl ?_
  refine ex_al d_ML_enter_15 rfl ?_
  refine ex_cV [0, 12, 8] hR (c_ML_own l G x r f [(m, .inr (15, [.int nm, .int (nI (512 + 16 * u)), .int (nI (4 * (Lf / 4))), .int (nI gu), .int exi, .int 0, .ref nl]))] Fr m u (4 * (Lf / 4)) [.int nm, .int (nI (512 + 16 * u)), .int (nI (4 * (Lf / 4))), .int (nI gu), .int exi, .int 0, .ref nl] List.mem_cons_self rfl rfl hu (some m) (fun o z => ⟨_, by cases z; exact List.mem_cons_self⟩)) (eg_invV 0 d_ML_enter_17 cd_ML_own cx_ML_194 rfl rfl List.mem_cons_self rfl rfl) cd_ML_own rfl rfl (Nat.le_of_ble_eq_true rfl) (by decide) (by decide) (by decide) (by decide) rfl ?_
  refine ex_eqS [LO x r f, MA G a (wrM M (512 + 16 * u) (imgF U (Lf / 4)) 0) P R pc tr md, SO (r 1) pl gn (nI n) marks, SPl G pl F, SG gn, PP, ALo (r 2) b k y, q, RW G (r 3) (owF Fr u (some m) ((4 * (Lf / 4) + 15) / 16)), RO ro tp t p (.ref ia) ini exi (nI gu) la lb lc, IMG G ia (Lf / 4) (imgF U (Lf / 4)), Q, [(m, .inr (15, [.int nm, .int (nI (512 + 16 * u)), .int (nI (4 * (Lf / 4))), .int (nI gu), .int exi, .int 0, .ref nl]))], ALo nl G.2.2.2.1 0 0] rfl ?_
  refine ex_k d_ML_enter_20 ?_
  refine ex_is d_ML_enter_21 (Nat.le_of_ble_eq_true rfl) ?_
  exact L23 0 (Nat.zero_le _)
